/-! THE COMPONENT: new Inspector, problems (printed by gen) -/
section T9S
variable {g : GB} {M : MI} {d c k : Nat} {h : HM}
set_option maxRecDepth 100000 in
set_option maxHeartbeats 4000000 in
theorem k_initX19 {o a : Nat} (hG : GKx g) (hKC : KC g h) (ho : h o = some (.inr (15, [.null, .null, .null, .null, .null, .null]))) (hB : gB g ≤ o) : Kc g mX19_init 5 (5) (35) [.ref o, .ref a] h (rR (fun v h' => v = none ∧ ∃ pl ro co rb cb : Nat, InA h' o pl ro co rb cb a (fun _ : Nat => (0 : Int)) (fun _ : Nat => (0 : Int)) (fun _ : Nat => (0 : Int)) (fun _ : Nat => (0 : Int)) ∧ ALh g h' pl (g.2.2.2.2 48) 0 0 [] ∧ (ro ≠ co ∧ ro ≠ rb ∧ ro ≠ cb ∧ co ≠ rb ∧ co ≠ cb ∧ rb ≠ cb) ∧ (gB g ≤ ro ∧ gB g ≤ co ∧ gB g ≤ rb ∧ gB g ≤ cb) ∧ (∀ x ∈ [pl, ro, co, rb, cb], h x = none) ∧ Fr g h h' [o])) := by
  refine Kc.of (ls := [some (.ref o), some (.ref a)]) (by decide +kernel) (Nat.le_of_ble_eq_true rfl) rfl ?_
  refine ev_aload_n dX19_init_0 rfl ?_
  refine ev_aload_n dX19_init_1 rfl ?_
  refine ev_putC [.null, .null, .null, .null, .null, .ref a] dX19_init_2 gf_X19_3_X19 ho hB (Or.inr ⟨rfl, rfl⟩) rfl rfl (Nat.le_of_ble_eq_true rfl) rfl (fun hp_1 ho_2 f3 => ?_)
  have F4 := ((Fr.refl (g := g) _ [o])).write (Or.inl ⟨_, ho_2⟩) f3 hB (by simp)
  refine ev_aload_n dX19_init_5 rfl ?_
  refine ev_objInit dX19_init_6 q2331 q183 q184 (by omega) rfl ?_
  refine ev_aload_n dX19_init_9 rfl ?_
  refine ev_newC (c' := 4) (k' := 32) [vz 0, .null, vz 0] dX19_init_10 cf_J26 q2332 q376 q152 rfl (by omega) (by omega) (fun q5 hp_6 e7 B8 Hq5_9 f10 => ?_)
  have ho_11 := (f10 _ (ne_no ho_2 e7)).trans ho_2
  have z12 := (F4).fresh e7
  have F13 := (F4).alloc (Or.inl ⟨_, Hq5_9⟩) f10 e7
  refine ev_dup dX19_init_13 rfl ?_
  refine ev_callVR dX19_init_14 ci_X19_17 ce_J26_init Hq5_9 rfl rfl rfl (al_init hG Hq5_9 B8) (by omega) (by omega) (by omega) (Nat.le_of_ble_eq_true rfl) (fun v14 hp_14 P14 => ?_)
  obtain ⟨rfl, hn14, fr14⟩ := P14
  have ho_15 := fr14.keep ho_11 (by simp only [List.mem_cons, List.not_mem_nil, or_false, not_or]; exact (ne_no ho_2 e7))
  have F16 := (F13).call fr14 (fun x hx => Or.inr (Or.inl (by rw [List.mem_singleton.mp hx]; exact z12)))
  refine ev_putC [.ref q5, .null, .null, .null, .null, .ref a] dX19_init_17 gf_X19_18_X19 ho_15 hB (Or.inr ⟨rfl, rfl⟩) rfl rfl (Nat.le_of_ble_eq_true rfl) rfl (fun hp_17 ho_18 f19 => ?_)
  have hn14_20 := (f19 _ ((ne_no ho_2 e7)).symm).trans hn14
  have F21 := (F16).write (Or.inl ⟨_, ho_18⟩) f19 hB (by simp)
  refine ev_aload_n dX19_init_20 rfl ?_
  refine ev_bipushZ dX19_init_21 rfl ?_
  refine ev_newA_int (N := 8) (c' := 3) (k' := 24) dX19_init_23 (by omega) (by omega) (by omega) (by omega) (by omega) (fun q22 hp_23 e24 B25 Hq22_26 f27 => ?_)
  have ho_28 := (f27 _ (ne_no ho_18 e24)).trans ho_18
  have hn14_29 := (f27 _ (ne_no hn14_20 e24)).trans hn14_20
  have z30 := (F21).fresh e24
  have F31 := (F21).alloc (Or.inr ⟨_, Hq22_26, Nat.le_of_ble_eq_true rfl⟩) f27 e24
  refine ev_putC [.ref q5, .ref q22, .null, .null, .null, .ref a] dX19_init_25 gf_X19_22_X19 ho_28 hB (Or.inr ⟨rfl, rfl⟩) rfl rfl (Nat.le_of_ble_eq_true rfl) rfl (fun hp_32 ho_33 f34 => ?_)
  have hn14_35 := (f34 _ ((ne_no ho_2 e7)).symm).trans hn14_29
  have Hq22_36 := (f34 _ ((ne_no ho_18 e24)).symm).trans Hq22_26
  have F37 := (F31).write (Or.inl ⟨_, ho_33⟩) f34 hB (by simp)
  refine ev_aload_n dX19_init_28 rfl ?_
  refine ev_bipushZ dX19_init_29 rfl ?_
  refine ev_newA_int (N := 8) (c' := 2) (k' := 16) dX19_init_31 (by omega) (by omega) (by omega) (by omega) (by omega) (fun q38 hp_39 e40 B41 Hq38_42 f43 => ?_)
  have ho_44 := (f43 _ (ne_no ho_33 e40)).trans ho_33
  have hn14_45 := (f43 _ (ne_no hn14_35 e40)).trans hn14_35
  have Hq22_46 := (f43 _ (ne_no Hq22_36 e40)).trans Hq22_36
  have z47 := (F37).fresh e40
  have F48 := (F37).alloc (Or.inr ⟨_, Hq38_42, Nat.le_of_ble_eq_true rfl⟩) f43 e40
  refine ev_putC [.ref q5, .ref q22, .ref q38, .null, .null, .ref a] dX19_init_33 gf_X19_26_X19 ho_44 hB (Or.inr ⟨rfl, rfl⟩) rfl rfl (Nat.le_of_ble_eq_true rfl) rfl (fun hp_49 ho_50 f51 => ?_)
  have hn14_52 := (f51 _ ((ne_no ho_2 e7)).symm).trans hn14_45
  have Hq22_53 := (f51 _ ((ne_no ho_18 e24)).symm).trans Hq22_46
  have Hq38_54 := (f51 _ ((ne_no ho_33 e40)).symm).trans Hq38_42
  have F55 := (F48).write (Or.inl ⟨_, ho_50⟩) f51 hB (by simp)
  refine ev_aload_n dX19_init_36 rfl ?_
  refine ev_bipushZ dX19_init_37 rfl ?_
  refine ev_newA_int (N := 8) (c' := 1) (k' := 8) dX19_init_39 (by omega) (by omega) (by omega) (by omega) (by omega) (fun q56 hp_57 e58 B59 Hq56_60 f61 => ?_)
  have ho_62 := (f61 _ (ne_no ho_50 e58)).trans ho_50
  have hn14_63 := (f61 _ (ne_no hn14_52 e58)).trans hn14_52
  have Hq22_64 := (f61 _ (ne_no Hq22_53 e58)).trans Hq22_53
  have Hq38_65 := (f61 _ (ne_no Hq38_54 e58)).trans Hq38_54
  have z66 := (F55).fresh e58
  have F67 := (F55).alloc (Or.inr ⟨_, Hq56_60, Nat.le_of_ble_eq_true rfl⟩) f61 e58
  refine ev_putC [.ref q5, .ref q22, .ref q38, .ref q56, .null, .ref a] dX19_init_41 gf_X19_29_X19 ho_62 hB (Or.inr ⟨rfl, rfl⟩) rfl rfl (Nat.le_of_ble_eq_true rfl) rfl (fun hp_68 ho_69 f70 => ?_)
  have hn14_71 := (f70 _ ((ne_no ho_2 e7)).symm).trans hn14_63
  have Hq22_72 := (f70 _ ((ne_no ho_18 e24)).symm).trans Hq22_64
  have Hq38_73 := (f70 _ ((ne_no ho_33 e40)).symm).trans Hq38_65
  have Hq56_74 := (f70 _ ((ne_no ho_50 e58)).symm).trans Hq56_60
  have F75 := (F67).write (Or.inl ⟨_, ho_69⟩) f70 hB (by simp)
  refine ev_aload_n dX19_init_44 rfl ?_
  refine ev_bipushZ dX19_init_45 rfl ?_
  refine ev_newA_int (N := 8) (c' := 0) (k' := 0) dX19_init_47 (by omega) (by omega) (by omega) (by omega) (by omega) (fun q76 hp_77 e78 B79 Hq76_80 f81 => ?_)
  have ho_82 := (f81 _ (ne_no ho_69 e78)).trans ho_69
  have hn14_83 := (f81 _ (ne_no hn14_71 e78)).trans hn14_71
  have Hq22_84 := (f81 _ (ne_no Hq22_72 e78)).trans Hq22_72
  have Hq38_85 := (f81 _ (ne_no Hq38_73 e78)).trans Hq38_73
  have Hq56_86 := (f81 _ (ne_no Hq56_74 e78)).trans Hq56_74
  have z87 := (F75).fresh e78
  have F88 := (F75).alloc (Or.inr ⟨_, Hq76_80, Nat.le_of_ble_eq_true rfl⟩) f81 e78
  refine ev_putC [.ref q5, .ref q22, .ref q38, .ref q56, .ref q76, .ref a] dX19_init_49 gf_X19_32_X19 ho_82 hB (Or.inr ⟨rfl, rfl⟩) rfl rfl (Nat.le_of_ble_eq_true rfl) rfl (fun hp_89 ho_90 f91 => ?_)
  have hn14_92 := (f91 _ ((ne_no ho_2 e7)).symm).trans hn14_83
  have Hq22_93 := (f91 _ ((ne_no ho_18 e24)).symm).trans Hq22_84
  have Hq38_94 := (f91 _ ((ne_no ho_33 e40)).symm).trans Hq38_85
  have Hq56_95 := (f91 _ ((ne_no ho_50 e58)).symm).trans Hq56_86
  have Hq76_96 := (f91 _ ((ne_no ho_69 e78)).symm).trans Hq76_80
  have F97 := (F88).write (Or.inl ⟨_, ho_90⟩) f91 hB (by simp)
  refine ev_return dX19_init_52 rfl ?_
  refine ⟨_, rfl, rfl, q5, q22, q38, q56, q76, ⟨ho_90, Hq22_93, Hq38_94, Hq56_95, Hq76_96⟩, al_new (hKC.fr F97).1.1 hn14_92 B8, ⟨(ne_no Hq22_36 e40), (ne_no Hq22_53 e58), (ne_no Hq22_72 e78), (ne_no Hq38_54 e58), (ne_no Hq38_73 e78), (ne_no Hq56_74 e78)⟩, ⟨B25, B41, B59, B79⟩, fun x hx => ?_, F97⟩
  simp only [List.mem_cons, List.not_mem_nil, or_false] at hx
  rcases hx with e | e | e | e | e <;> rw [e]
  · exact z12
  · exact z30
  · exact z47
  · exact z66
  · exact z87
set_option maxRecDepth 100000 in
set_option maxHeartbeats 4000000 in
theorem k_problems {I : HM} {a st fo : Nat} {D : Dn} {l : List Nd} {P : Pt} (hG : GKx g) (hKC : KC g h) (hSI : Sub I h) (H : DnC g I h a st fo D) (hp9 : D.2.2.2 = some l) (hP9 : P = mean l) (hO : dnOk D) (hln : l.length < 1000000) (hd : 411 ≤ d) (hc : 6 + 2 * (srK D P 0 (P.1.1 + 1)).length ≤ c) (hk : 41 + kP (srK D P 0 (P.1.1 + 1)).length ≤ k) : Kc g mX2_problems d (c) (k) [.ref a] h (rR (fun v h' => ∃ (pl : Nat) (X : List Nat), v = some (.ref pl) ∧ PrH g h h' pl X (srK D P 0 (P.1.1 + 1)) ∧ Fr g h h' [])) := by
  refine Kc.of (ls := [some (.ref a)]) (by decide +kernel) (Nat.le_of_ble_eq_true rfl) rfl ?_
  obtain ⟨A, B, pv, sv, KD, -⟩ := id H
  have m1 := KD.1
  refine ev_newC (c' := c - 1) (k' := k - 6) [.null, .null, .null, .null, .null, .null] dX2_problems_0 cf_X19 q2326 q2327 q169 rfl (by omega) (by omega) (fun q1 hp_2 e3 B4 Hq1_5 f6 => ?_)
  have m1_7 := (f6 _ (ne_no m1 e3)).trans m1
  have z8 := ((Fr.refl (g := g) _ [])).fresh e3
  have F9 := ((Fr.refl (g := g) _ [])).alloc (Or.inl ⟨_, Hq1_5⟩) f6 e3
  refine ev_dup dX2_problems_3 rfl ?_
  refine ev_aload_n dX2_problems_4 rfl ?_
  have FA := F9
  refine ev_callVR dX2_problems_5 ci_X2_84 ce_X19_init Hq1_5 rfl rfl rfl (k_initX19 hG (hKC.fr FA) Hq1_5 B4) (by omega) (by omega) (by omega) (Nat.le_of_ble_eq_true rfl) (fun v8 h2 P8 => ?_)
  obtain ⟨rfl, pl, ro, co, rb, cb, K2, AL2, hne, hbb, hz2, F2⟩ := P8
  have zq : h q1 = none := z8
  have FB : Fr g h h2 [] := FA.call F2 (fun x hx => Or.inr (Or.inl (by rw [List.mem_singleton.mp hx]; exact zq)))
  have hP : InP g h q1 pl ro co rb cb := ⟨hne, hbb, fun x hx => (List.mem_cons.mp hx).elim (fun e => by rw [e]; exact zq) (fun e => FA.fresh (hz2 x e))⟩
  have HL : PrH g h h2 pl [ro, co, rb, cb] [] := ⟨_, [], AL2, rfl, (fun i x y h1 => by simp at h1), (fun x hx => by cases hx), Or.inl hKC.1.2⟩
  refine ev_callVR dX2_problems_8 cv_X2_87_X19 ce_X19_inspect K2.1 rfl rfl rfl (k_inspect (d := 410) (c := 2 * (srK D P 0 (P.1.1 + 1)).length) (k := kP (srK D P 0 (P.1.1 + 1)).length) K2 hG hKC hP hSI H hp9 hP9 hO HL FB (fun e he => ⟨by omega, by omega, by omega, by omega⟩) hln (Nat.le_refl _) (Nat.le_refl _) (Nat.sub_le _ _)) (by omega) (by omega) (by omega) (Nat.le_of_ble_eq_true rfl) (fun v9 h3 P9 => ?_)
  obtain ⟨rfl, HL3, F3⟩ := P9
  refine ev_areturn dX2_problems_11 rfl (Or.inl ⟨_, rfl⟩) (Or.inr ⟨_, rfl⟩) ?_
  exact ⟨_, rfl, pl, [ro, co, rb, cb], rfl, HL3, F3⟩
end T9S

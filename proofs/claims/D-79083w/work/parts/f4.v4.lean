/-! THE COMPONENT: the parser, phrase: steps, names (printed by gen) -/
section V4S
variable {g : GB} {M : MI} {d c k : Nat} {h : HM}
variable {I h0 : HM} {ps tb tv cap ne : Nat} {t : List Nat}
set_option maxRecDepth 100000 in
set_option maxHeartbeats 4000000 in
theorem ph_76F (hG : GKx g) (K0 : KC g h0) (hB : gB g ≤ ps) (hu9 : ∀ u ∈ t, u < 128) (hl : t.length ≤ 100) {off : Int} {fm q1 : Nat} {rs : List Nat} {x3 x4 : Int} (L : LsS g I h0 ps tb tv cap ne t I (fm) q1 (rs) h) (hfm : fm ≤ t.length) (hS : isS t fm = false) (hd : 10 ≤ d) (hc : 1 ≤ c) (hk : 7 ≤ k) : Ev g mX6_phrase d c k (synE g h0 ps tb ne fm) 76 [some (.ref ps), some (vz off), some (.ref q1), some (vz x3), some (vz x4), some (vz ((fm : Nat) : Int)), none, none] [] h := by
  obtain ⟨lP, lT, lG, lF, lj, v9, c9, mc9, lA, lv⟩ := id L
  have la := lA.1
  obtain ⟨TA9, lt, -⟩ := id lT
  have hST : STh h (g.2.2.2.2 20) (g.2.2.2.2 44) (strB "nesw.") := ((K0.fr lF).2.2.1 20 _ rfl).1
  obtain ⟨sA, sx, sy, hs1, -⟩ := id hST
  refine ev_aload_n dX6_phrase_76 rfl ?_
  refine ev_getf dX6_phrase_77 gf_X6_15_X6 lP rfl ?_
  refine ev_aload_n dX6_phrase_80 rfl ?_
  refine ev_getf dX6_phrase_81 gf_X6_9_X6 lP rfl ?_
  refine ev_callVE dX6_phrase_84 (cf_X6_19_J6 hG) ce_J6_length lt rfl rfl rfl (sb_length lT) (by omega) (Nat.le_of_ble_eq_true rfl) ?_
  refine ev_icmp_eqZ (tgt := 113) dX6_phrase_89 (by decide) (by omega) (by omega) (fun c89 => ?_) (fun c89 => ?_)
  · refine ev_aload_n dX6_phrase_113 rfl ?_
    refine ev_callVR dX6_phrase_114 cv_X6_42_X6 ce_X6_fault lP rfl rfl rfl (k_fault hG lP) (by omega) (by omega) (by omega) (Nat.le_of_ble_eq_true rfl) (fun v9 h2 P9 => ?_)
    obtain ⟨q, rfl, zq9, hq9, fr9⟩ := P9
    exact ev_athrow (C := "") dX6_phrase_117 hq9 rfl (evx_out rfl (L.err ⟨q, rfl, zq9, hq9, fr9⟩))
  · obtain ⟨u, hu⟩ : ∃ u, t[fm]? = some u := ⟨_, List.getElem?_eq_getElem (by omega)⟩
    have hu7 := hu9 u (List.mem_of_getElem? hu)
    have hi9 := isS_idx hu hu7
    have hib := idxO_b (t := strB "nesw.") (x := u)
    have hle : (strB "nesw.").length = 5 := by decide
    rw [hS] at hi9
    have hi8 := of_decide_eq_false hi9.symm
    have hib := idxO_b (t := strB "nesw.") (x := u)
    have hle : (strB "nesw.").length = 5 := by decide
    refine ev_ldcS (i := 20) hG dX6_phrase_92 rfl ?_
    refine ev_aload_n dX6_phrase_94 rfl ?_
    refine ev_getf dX6_phrase_95 gf_X6_9_X6 lP rfl ?_
    refine ev_aload_n dX6_phrase_98 rfl ?_
    refine ev_getf dX6_phrase_99 gf_X6_15_X6 lP rfl ?_
    refine ev_callVE dX6_phrase_102 (cf_X6_25_J6 hG) ce_J6_charAt lt rfl rfl rfl (sb_charAt lT hG (by omega) (by rw [Int.toNat_natCast]; exact hu)) (by omega) (Nat.le_of_ble_eq_true rfl) ?_
    refine ev_callVE dX6_phrase_107 cv_X6_116_J7 ce_J7_indexOf hs1 rfl rfl rfl (st_indexOf hG hST (by omega)) (by omega) (Nat.le_of_ble_eq_true rfl) ?_
    refine ev_if_geZ (tgt := 118) dX6_phrase_110 (by decide) (by omega) (fun c110 => absurd c110 (by omega)) (fun c110 => ?_)
    refine ev_aload_n dX6_phrase_113 rfl ?_
    refine ev_callVR dX6_phrase_114 cv_X6_42_X6 ce_X6_fault lP rfl rfl rfl (k_fault hG lP) (by omega) (by omega) (by omega) (Nat.le_of_ble_eq_true rfl) (fun v9 h2 P9 => ?_)
    obtain ⟨q, rfl, zq9, hq9, fr9⟩ := P9
    exact ev_athrow (C := "") dX6_phrase_117 hq9 rfl (evx_out rfl (L.err ⟨q, rfl, zq9, hq9, fr9⟩))
set_option maxRecDepth 100000 in
set_option maxHeartbeats 4000000 in
theorem ph_76 (hG : GKx g) (K0 : KC g h0) (hB : gB g ≤ ps) (hu9 : ∀ u ∈ t, u < 128) (hl : t.length ≤ 100) (hSI : Sub I h0) {off : Int} {kd vl9 e q1 fm : Nat} {ds ss : List Nat} {x3 x4 : Int} (L : LsS g I h0 ps tb tv cap ne t I (fm) q1 (ds.map (cI g)) h) (hS : isS t fm = true) (hle9 : e ≤ t.length) (hkd : kd ≤ 1) (hoff : off = ((offN (kd, vl9, 0, ds, ss) : Nat) : Int)) (hv9 : kd = 1 → 1 ≤ vl9) (hss : (runS t (t.length + 1) fm).1 = ss) (hee : (runS t (t.length + 1) fm).2 = e) (hds : ∀ u ∈ ds, u < 8) (hdl : ds.length ≤ 100) (hd : 10 ≤ d) (hc : 4 ≤ c) (hk : 2 * ds.length + t.length + 20 ≤ k) : Ev g mX6_phrase d c k (PrQ g I h0 ps tb ne 0 (.ok ([[(kd, vl9, 0, ds, ss)]], e))) 76 [some (.ref ps), some (vz off), some (.ref q1), some (vz x3), some (vz x4), some (vz ((fm : Nat) : Int)), none, none] [] h := by
  have hfm := isS_lt hS
  obtain ⟨r1, r2, r3⟩ := runS_facts t (t.length + 1) fm (by omega) (by omega)
  rw [hss, hee] at r1
  rw [hss] at r2
  rw [hee] at r3
  have hsl : 1 ≤ ss.length := by
    cases q : ss with
    | nil => rw [q] at r1; rw [r1] at r3; simp only [List.length_nil, Nat.add_zero] at r3; rw [hS] at r3; cases r3
    | cons a b => rw [List.length_cons]; omega
  have hin : ∀ j : Nat, j < ss.length → isS t (fm + j) = true := fun j hj => by
    obtain ⟨x, hx⟩ : ∃ x, ss[j]? = some x := ⟨_, List.getElem?_eq_getElem hj⟩
    exact (r2 j x hx).1
  refine ev_for (st := []) (ss.length - 1) (fun j h1 => LsS g I h0 ps tb tv cap ne t I (fm + j) q1 (ds.map (cI g)) h1) (fun _ => [some (.ref ps), some (vz off), some (.ref q1), some (vz x3), some (vz x4), some (vz ((fm : Nat) : Int)), none, none]) 0 (Nat.zero_le _) L (by repeat' first | exact rfl | exact trivial | exact vz_eq (by omega) | refine And.intro ?_ ?_) (fun j h1 _ hj L1 hK => ?_) (fun h1 L1 => ?_)
  · have hs0 := hin j (by omega)
    have hs2 : isS t (fm + j + 1) = true := hin (j + 1) (by omega)
    have hlt := isS_lt hs0
    obtain ⟨lP, lT, lG, lF, lj, v9, c9, mc9, lA, lv⟩ := id L1
    have la := lA.1
    obtain ⟨TA9, lt, -⟩ := id lT
    have hST : STh h1 (g.2.2.2.2 20) (g.2.2.2.2 44) (strB "nesw.") := ((K0.fr lF).2.2.1 20 _ rfl).1
    obtain ⟨sA, sx, sy, hs1, -⟩ := id hST
    obtain ⟨u, hu⟩ : ∃ u, t[fm + j]? = some u := ⟨_, List.getElem?_eq_getElem (by omega)⟩
    have hu7 := hu9 u (List.mem_of_getElem? hu)
    have hi9 := isS_idx hu hu7
    have hib := idxO_b (t := strB "nesw.") (x := u)
    have hle : (strB "nesw.").length = 5 := by decide
    rw [hs0] at hi9
    refine ev_aload_n dX6_phrase_76 rfl ?_
    refine ev_getf dX6_phrase_77 gf_X6_15_X6 lP rfl ?_
    refine ev_aload_n dX6_phrase_80 rfl ?_
    refine ev_getf dX6_phrase_81 gf_X6_9_X6 lP rfl ?_
    refine ev_callVE dX6_phrase_84 (cf_X6_19_J6 hG) ce_J6_length lt rfl rfl rfl (sb_length lT) (by omega) (Nat.le_of_ble_eq_true rfl) ?_
    refine ev_icmp_eqZ (tgt := 113) dX6_phrase_89 (by decide) (by omega) (by omega) (fun c89 => absurd c89 (by omega)) (fun c89 => ?_)
    refine ev_ldcS (i := 20) hG dX6_phrase_92 rfl ?_
    refine ev_aload_n dX6_phrase_94 rfl ?_
    refine ev_getf dX6_phrase_95 gf_X6_9_X6 lP rfl ?_
    refine ev_aload_n dX6_phrase_98 rfl ?_
    refine ev_getf dX6_phrase_99 gf_X6_15_X6 lP rfl ?_
    refine ev_callVE dX6_phrase_102 (cf_X6_25_J6 hG) ce_J6_charAt lt rfl rfl rfl (sb_charAt lT hG (by omega) (by rw [Int.toNat_natCast]; exact hu)) (by omega) (Nat.le_of_ble_eq_true rfl) ?_
    refine ev_callVE dX6_phrase_107 cv_X6_116_J7 ce_J7_indexOf hs1 rfl rfl rfl (st_indexOf hG hST (by omega)) (by omega) (Nat.le_of_ble_eq_true rfl) ?_
    refine ev_if_geZ (tgt := 118) dX6_phrase_110 (by decide) (by omega) (fun c110 => ?_) (fun c110 => absurd (of_decide_eq_true hi9.symm) (by omega))
    refine ev_aload_n dX6_phrase_118 rfl ?_
    refine ev_dup dX6_phrase_119 rfl ?_
    refine ev_getf dX6_phrase_120 gf_X6_15_X6 lP rfl ?_
    refine ev_iconstZ dX6_phrase_123 ?_
    refine ev_iaddZ dX6_phrase_124 ?_
    refine ev_putC [.ref tb, vz (((fm + j : Nat) : Int) + 1), vz ((ne : Nat) : Int)] dX6_phrase_125 gf_X6_15_X6 lP hB (Or.inl rfl) rfl rfl (Nat.le_of_ble_eq_true rfl) rfl (fun h2 hp2 f2 => ?_)
    have F2 : Fr g h1 h2 [ps] := (Fr.refl (g := g) h1 [ps]).write (Or.inl ⟨_, hp2⟩) f2 hB (List.mem_singleton_self _)
    have L2 := L1.take (pos' := fm + j + 1) (show ParC h2 ps tb (fm + j + 1) ne from hp2) F2
    clear lP lT lG lF lj lA lv la lt hST hs1
    obtain ⟨lP, lT, lG, lF, lj, v9, c9, mc9, lA, lv⟩ := id L2
    have la := lA.1
    obtain ⟨TA9, lt, -⟩ := id lT
    have hST : STh h2 (g.2.2.2.2 20) (g.2.2.2.2 44) (strB "nesw.") := ((K0.fr lF).2.2.1 20 _ rfl).1
    obtain ⟨sA, sx, sy, hs1, -⟩ := id hST
    refine ev_aload_n dX6_phrase_128 rfl ?_
    refine ev_getf dX6_phrase_129 gf_X6_15_X6 lP rfl ?_
    refine ev_aload_n dX6_phrase_132 rfl ?_
    refine ev_getf dX6_phrase_133 gf_X6_9_X6 lP rfl ?_
    refine ev_callVE dX6_phrase_136 (cf_X6_19_J6 hG) ce_J6_length lt rfl rfl rfl (sb_length lT) (by omega) (Nat.le_of_ble_eq_true rfl) ?_
    refine ev_icmp_geZ (tgt := 165) dX6_phrase_141 (by decide) (by omega) (by omega) (fun c141 => absurd c141 (by have := isS_lt hs2; omega)) (fun c141 => ?_)
    obtain ⟨u2, hu2⟩ : ∃ u2, t[fm + j + 1]? = some u2 := ⟨_, List.getElem?_eq_getElem (by omega)⟩
    have hu27 := hu9 u2 (List.mem_of_getElem? hu2)
    have hi2 := isS_idx hu2 hu27
    have hib2 := idxO_b (t := strB "nesw.") (x := u2)
    rw [hs2] at hi2
    refine ev_ldcS (i := 20) hG dX6_phrase_144 rfl ?_
    refine ev_aload_n dX6_phrase_146 rfl ?_
    refine ev_getf dX6_phrase_147 gf_X6_9_X6 lP rfl ?_
    refine ev_aload_n dX6_phrase_150 rfl ?_
    refine ev_getf dX6_phrase_151 gf_X6_15_X6 lP rfl ?_
    refine ev_callVE dX6_phrase_154 (cf_X6_25_J6 hG) ce_J6_charAt lt rfl rfl rfl (sb_charAt lT hG (by omega) (by rw [Int.toNat_natCast]; exact hu2)) (by omega) (Nat.le_of_ble_eq_true rfl) ?_
    refine ev_callVE dX6_phrase_159 cv_X6_116_J7 ce_J7_indexOf hs1 rfl rfl rfl (st_indexOf hG hST (by omega)) (by omega) (Nat.le_of_ble_eq_true rfl) ?_
    refine ev_if_geZ (tgt := 76) dX6_phrase_162 (by decide) (by omega) (fun c162 => ?_) (fun c162 => absurd (of_decide_eq_true hi2.symm) (by omega))
    exact hK _ _ (by repeat' first | exact rfl | exact trivial | exact vz_eq (by omega) | refine And.intro ?_ ?_) L2
  · have hj1 : ss.length - 1 + 1 = ss.length := by omega
    generalize ss.length - 1 = j at L1 hj1
    have hs0 := hin j (by omega)
    have hej : fm + j + 1 = e := by omega
    have hs2 : isS t (fm + j + 1) = false := by rw [hej]; exact r3
    have hlt := isS_lt hs0
    obtain ⟨lP, lT, lG, lF, lj, v9, c9, mc9, lA, lv⟩ := id L1
    have la := lA.1
    obtain ⟨TA9, lt, -⟩ := id lT
    have hST : STh h1 (g.2.2.2.2 20) (g.2.2.2.2 44) (strB "nesw.") := ((K0.fr lF).2.2.1 20 _ rfl).1
    obtain ⟨sA, sx, sy, hs1, -⟩ := id hST
    obtain ⟨u, hu⟩ : ∃ u, t[fm + j]? = some u := ⟨_, List.getElem?_eq_getElem (by omega)⟩
    have hu7 := hu9 u (List.mem_of_getElem? hu)
    have hi9 := isS_idx hu hu7
    have hib := idxO_b (t := strB "nesw.") (x := u)
    have hle : (strB "nesw.").length = 5 := by decide
    rw [hs0] at hi9
    refine ev_aload_n dX6_phrase_76 rfl ?_
    refine ev_getf dX6_phrase_77 gf_X6_15_X6 lP rfl ?_
    refine ev_aload_n dX6_phrase_80 rfl ?_
    refine ev_getf dX6_phrase_81 gf_X6_9_X6 lP rfl ?_
    refine ev_callVE dX6_phrase_84 (cf_X6_19_J6 hG) ce_J6_length lt rfl rfl rfl (sb_length lT) (by omega) (Nat.le_of_ble_eq_true rfl) ?_
    refine ev_icmp_eqZ (tgt := 113) dX6_phrase_89 (by decide) (by omega) (by omega) (fun c89 => absurd c89 (by omega)) (fun c89 => ?_)
    refine ev_ldcS (i := 20) hG dX6_phrase_92 rfl ?_
    refine ev_aload_n dX6_phrase_94 rfl ?_
    refine ev_getf dX6_phrase_95 gf_X6_9_X6 lP rfl ?_
    refine ev_aload_n dX6_phrase_98 rfl ?_
    refine ev_getf dX6_phrase_99 gf_X6_15_X6 lP rfl ?_
    refine ev_callVE dX6_phrase_102 (cf_X6_25_J6 hG) ce_J6_charAt lt rfl rfl rfl (sb_charAt lT hG (by omega) (by rw [Int.toNat_natCast]; exact hu)) (by omega) (Nat.le_of_ble_eq_true rfl) ?_
    refine ev_callVE dX6_phrase_107 cv_X6_116_J7 ce_J7_indexOf hs1 rfl rfl rfl (st_indexOf hG hST (by omega)) (by omega) (Nat.le_of_ble_eq_true rfl) ?_
    refine ev_if_geZ (tgt := 118) dX6_phrase_110 (by decide) (by omega) (fun c110 => ?_) (fun c110 => absurd (of_decide_eq_true hi9.symm) (by omega))
    refine ev_aload_n dX6_phrase_118 rfl ?_
    refine ev_dup dX6_phrase_119 rfl ?_
    refine ev_getf dX6_phrase_120 gf_X6_15_X6 lP rfl ?_
    refine ev_iconstZ dX6_phrase_123 ?_
    refine ev_iaddZ dX6_phrase_124 ?_
    refine ev_putC [.ref tb, vz (((fm + j : Nat) : Int) + 1), vz ((ne : Nat) : Int)] dX6_phrase_125 gf_X6_15_X6 lP hB (Or.inl rfl) rfl rfl (Nat.le_of_ble_eq_true rfl) rfl (fun h2 hp2 f2 => ?_)
    have F2 : Fr g h1 h2 [ps] := (Fr.refl (g := g) h1 [ps]).write (Or.inl ⟨_, hp2⟩) f2 hB (List.mem_singleton_self _)
    have L2 := L1.take (pos' := fm + j + 1) (show ParC h2 ps tb (fm + j + 1) ne from hp2) F2
    clear lP lT lG lF lj lA lv la lt hST hs1
    obtain ⟨lP, lT, lG, lF, lj, v9, c9, mc9, lA, lv⟩ := id L2
    have la := lA.1
    obtain ⟨TA9, lt, -⟩ := id lT
    have hST : STh h2 (g.2.2.2.2 20) (g.2.2.2.2 44) (strB "nesw.") := ((K0.fr lF).2.2.1 20 _ rfl).1
    obtain ⟨sA, sx, sy, hs1, -⟩ := id hST
    refine ev_aload_n dX6_phrase_128 rfl ?_
    refine ev_getf dX6_phrase_129 gf_X6_15_X6 lP rfl ?_
    refine ev_aload_n dX6_phrase_132 rfl ?_
    refine ev_getf dX6_phrase_133 gf_X6_9_X6 lP rfl ?_
    refine ev_callVE dX6_phrase_136 (cf_X6_19_J6 hG) ce_J6_length lt rfl rfl rfl (sb_length lT) (by omega) (Nat.le_of_ble_eq_true rfl) ?_
    refine ev_icmp_geZ (tgt := 165) dX6_phrase_141 (by decide) (by omega) (by omega) (fun c141 => ?_) (fun c141 => ?_)
    · exact ph_tail hG K0 hB hu9 hl hSI (by rw [← hej]; exact L2) hkd hoff hv9 hss hee ⟨by omega, hle9⟩ hds hdl hd hc hk
    · obtain ⟨u2, hu2⟩ : ∃ u2, t[fm + j + 1]? = some u2 := ⟨_, List.getElem?_eq_getElem (by omega)⟩
      have hu27 := hu9 u2 (List.mem_of_getElem? hu2)
      have hi2 := isS_idx hu2 hu27
      have hib2 := idxO_b (t := strB "nesw.") (x := u2)
      rw [hs2] at hi2
      have hi3 := of_decide_eq_false hi2.symm
      have hib := idxO_b (t := strB "nesw.") (x := u2)
      have hle : (strB "nesw.").length = 5 := by decide
      refine ev_ldcS (i := 20) hG dX6_phrase_144 rfl ?_
      refine ev_aload_n dX6_phrase_146 rfl ?_
      refine ev_getf dX6_phrase_147 gf_X6_9_X6 lP rfl ?_
      refine ev_aload_n dX6_phrase_150 rfl ?_
      refine ev_getf dX6_phrase_151 gf_X6_15_X6 lP rfl ?_
      refine ev_callVE dX6_phrase_154 (cf_X6_25_J6 hG) ce_J6_charAt lt rfl rfl rfl (sb_charAt lT hG (by omega) (by rw [Int.toNat_natCast]; exact hu2)) (by omega) (Nat.le_of_ble_eq_true rfl) ?_
      refine ev_callVE dX6_phrase_159 cv_X6_116_J7 ce_J7_indexOf hs1 rfl rfl rfl (st_indexOf hG hST (by omega)) (by omega) (Nat.le_of_ble_eq_true rfl) ?_
      refine ev_if_geZ (tgt := 76) dX6_phrase_162 (by decide) (by omega) (fun c162 => absurd c162 (by omega)) (fun c162 => ?_)
      exact ph_tail hG K0 hB hu9 hl hSI (by rw [← hej]; exact L2) hkd hoff hv9 hss hee ⟨by omega, hle9⟩ hds hdl hd hc hk
set_option maxRecDepth 100000 in
set_option maxHeartbeats 4000000 in
theorem ph_60 (hG : GKx g) (K0 : KC g h0) (hB : gB g ≤ ps) (hu9 : ∀ u ∈ t, u < 128) (hl : t.length ≤ 100) (hSI : Sub I h0) {off : Int} {kd vl9 p q1 : Nat} {ds : List Nat} {x3 : Int} (L : LsS g I h0 ps tb tv cap ne t I ((runD t (t.length + 1) p).2) q1 (ds.map (cI g)) h) (hkd : kd ≤ 1) (hoff : off = ((if kd = 1 then vl9 else 0 : Nat) : Int)) (hv9 : kd = 1 → 1 ≤ vl9) (hp : p ≤ t.length) (hD : isD t p = true) (hdd9 : (runD t (t.length + 1) p).1 = ds) (hd : 10 ≤ d) (hc : 5 ≤ c) (hk : 2 * ds.length + t.length + 40 ≤ k) : Ev g mX6_phrase d c k (PrQ g I h0 ps tb ne 0 (phrP t kd vl9 p)) 60 [some (.ref ps), some (vz off), some (.ref q1), some (vz x3), none, none, none, none] [] h := by
  obtain ⟨r1, r2, r3⟩ := runD_facts t (t.length + 1) p hp (by omega)
  generalize he1 : (runD t (t.length + 1) p).2 = e1 at L r1 r3
  rw [hdd9] at r1 r2
  have hds : ∀ u ∈ ds, u < 8 := fun u hu => runD_ok t (t.length + 1) p u (by rw [hdd9]; exact hu)
  have he1l : e1 ≤ t.length := by
    cases q : ds.length with
    | zero => rw [r1, q]; exact hp
    | succ n =>
      obtain ⟨x, hx⟩ : ∃ x, ds[n]? = some x := ⟨_, List.getElem?_eq_getElem (by omega)⟩
      have := isD_lt (r2 n x hx).1; omega
  have hn58 : nx t e1 58 58 = decide (hrV t e1 = 58) := nx_eq
  by_cases h58 : hrV t e1 = 58
  · rw [decide_eq_true h58] at hn58
    have hlt := hrV_in h58 (by decide)
    obtain ⟨lP, lT, lG, lF, lj, v9, c9, mc9, lA, lv⟩ := id L
    have la := lA.1
    refine ev_aload_n dX6_phrase_60 rfl ?_
    refine ev_bipushZ dX6_phrase_61 rfl ?_
    refine ev_bipushZ dX6_phrase_63 rfl ?_
    refine ev_callVR dX6_phrase_65 cv_X6_72_X6 ce_X6_take L.1 rfl rfl rfl (k_takeT (lo := 58) (hi := 58) hG L.1 L.2.1 hu9 (by omega) (by omega) (by omega) hB hn58) (by omega) (by omega) (by omega) (Nat.le_of_ble_eq_true rfl) (fun vLa hLa PLa => ?_)
    obtain ⟨uLa, huLa, hrLa, rfl, HPLa, frLa⟩ := PLa
    have La := L.take HPLa frLa
    obtain ⟨lPa, lTa, lGa, lFa, lja, va9, ca9, mca9, lAa, lva⟩ := id La
    have laa := lAa.1
    refine ev_istore dX6_phrase_68 (by decide) rfl ?_
    dsimp only [List.set]
    refine ev_aload_n dX6_phrase_70 rfl ?_
    refine ev_getf dX6_phrase_71 gf_X6_15_X6 lPa rfl ?_
    refine ev_istore dX6_phrase_74 (by decide) rfl ?_
    dsimp only [List.set]
    by_cases hS : isS t (e1 + 1) = true
    · rw [show phrP t kd vl9 p = .ok ([[(kd, vl9, 0, ds, (runS t (t.length + 1) (e1 + 1)).1)]], (runS t (t.length + 1) (e1 + 1)).2) by rw [phrP_yes hD (by rw [he1]; exact h58) (by rw [he1]; exact hS), he1, hdd9]]
      exact ph_76 hG K0 hB hu9 hl hSI La hS (by have := phrF_le (c := t) (p := p) (b := true) hp; rw [phrF_yes hD (by rw [he1]; exact h58) (by rw [he1]; exact hS), he1] at this; exact this.1) hkd (by rw [hoff]; rfl) hv9 rfl rfl hds (by omega) hd (by omega) (by omega)
    · rw [phrP_noS hD (by rw [he1]; exact h58) (by rw [he1]; exact Bool.eq_false_iff.mpr hS), he1]
      exact ph_76F hG K0 hB hu9 hl La (by omega) (Bool.eq_false_iff.mpr hS) hd (by omega) (by omega)
  · rw [decide_eq_false h58] at hn58
    rw [phrP_no58 hD (by rw [he1]; exact h58), he1]
    obtain ⟨lP, lT, lG, lF, lj, v9, c9, mc9, lA, lv⟩ := id L
    have la := lA.1
    refine ev_aload_n dX6_phrase_60 rfl ?_
    refine ev_bipushZ dX6_phrase_61 rfl ?_
    refine ev_bipushZ dX6_phrase_63 rfl ?_
    refine ev_callV dX6_phrase_65 cv_X6_72_X6 ce_X6_take L.1 rfl rfl rfl (k_takeF (lo := 58) (hi := 58) hG L.1 L.2.1 hu9 (by omega) (by omega) (by omega) hB hn58) (by omega) (by omega) (by omega) (Nat.le_of_ble_eq_true rfl) (fun v h2 q => ?_) (fun E q h2 r => ?_)
    · obtain ⟨q9, e9, -⟩ := q; cases e9
    · exact evx_out rfl (L.err r)
set_option maxRecDepth 100000 in
set_option maxHeartbeats 4000000 in
theorem ph_27 (hG : GKx g) (K0 : KC g h0) (hB : gB g ≤ ps) (hu9 : ∀ u ∈ t, u < 128) (hl : t.length ≤ 100) (hSI : Sub I h0) {off : Int} {kd vl9 p q1 : Nat} {ds : List Nat} (L : LsS g I h0 ps tb tv cap ne t I (p + 1) q1 ((ds.take 1).map (cI g)) h) (hkd : kd ≤ 1) (hoff : off = ((if kd = 1 then vl9 else 0 : Nat) : Int)) (hv9 : kd = 1 → 1 ≤ vl9) (hp : p ≤ t.length) (hD : isD t p = true) (hdd9 : (runD t (t.length + 1) p).1 = ds) (hd : 10 ≤ d) (hc : 2 * ds.length + 5 ≤ c) (hk : 222 * ds.length + t.length + 40 ≤ k) : Ev g mX6_phrase d c k (PrQ g I h0 ps tb ne 0 (phrP t kd vl9 p)) 27 [some (.ref ps), some (vz off), some (.ref q1), some (vz 1), none, none, none, none] [] h := by
  obtain ⟨r1, r2, r3⟩ := runD_facts t (t.length + 1) p hp (by omega)
  rw [hdd9] at r1 r2
  have hdn : 1 ≤ ds.length := by
    cases q : ds with
    | nil => rw [q] at r1; rw [r1] at r3; simp only [List.length_nil, Nat.add_zero] at r3; rw [hD] at r3; cases r3
    | cons a b => rw [List.length_cons]; omega
  have hdl : ds.length ≤ 100 := by
    obtain ⟨x, hx⟩ : ∃ x, ds[ds.length - 1]? = some x := ⟨_, List.getElem?_eq_getElem (by omega)⟩
    have := isD_lt (r2 _ x hx).1; omega
  refine ev_forB (st := []) ds.length (fun i => 2 * (ds.length - i) + 5) (fun i => 220 * (ds.length - i) + (2 * ds.length + t.length + 40)) (fun i h1 => LsS g I h0 ps tb tv cap ne t I (p + i) q1 ((ds.take i).map (cI g)) h1) (fun _ => [some (.ref ps), some (vz off), some (.ref q1), some (vz 1), none, none, none, none]) 1 hdn L (by omega) (by omega) (by repeat' first | exact rfl | exact trivial | exact vz_eq (by omega) | refine And.intro ?_ ?_) (fun i h1 hi1 hi L1 hK => ?_) (fun h1 L1 => ?_)
  · obtain ⟨x, hx⟩ : ∃ x, ds[i]? = some x := ⟨_, List.getElem?_eq_getElem hi⟩
    have hx8 := runD_ok t (t.length + 1) p x (by rw [hdd9]; exact List.mem_of_getElem? hx)
    have hnx : nx t (p + i) 65 72 = true := by rw [nx_D]; exact (r2 i x hx).1
    have hlt := isD_lt (r2 i x hx).1
    have hrl : ((ds.take i).map (cI g)).length = i := by rw [List.length_map, List.length_take]; omega
    obtain ⟨lP, lT, lG, lF, lj, v9, c9, mc9, lA, lv⟩ := id L1
    have la := lA.1
    refine ev_aload_n dX6_phrase_27 rfl ?_
    refine ev_bipushZ dX6_phrase_28 rfl ?_
    refine ev_bipushZ dX6_phrase_30 rfl ?_
    refine ev_callVE dX6_phrase_32 cv_X6_33_X6 ce_X6_isNext lP rfl rfl rfl (k_isNext (d := 0) (lo := 65) (hi := 72) hG lP lT hu9 (by omega) (by omega) (by omega)) (by omega) (Nat.le_of_ble_eq_true rfl) ?_
    refine ev_if_eqB (tgt := 60) dX6_phrase_35 (by decide) (fun c35 => by rw [hnx] at c35; cases c35) (fun c35 => ?_)
    refine ev_aload_n dX6_phrase_38 rfl ?_
    refine ev_aload_n dX6_phrase_39 rfl ?_
    refine ev_bipushZ dX6_phrase_40 rfl ?_
    refine ev_bipushZ dX6_phrase_42 rfl ?_
    refine ev_callVR dX6_phrase_44 cv_X6_72_X6 ce_X6_take L1.1 rfl rfl rfl (k_takeT (lo := 65) (hi := 72) hG L1.1 L1.2.1 hu9 (by omega) (by omega) (by omega) hB hnx) (by omega) (by omega) (by omega) (Nat.le_of_ble_eq_true rfl) (fun vLb hLb PLb => ?_)
    obtain ⟨uLb, huLb, hrLb, rfl, HPLb, frLb⟩ := PLb
    have Lb := L1.take HPLb frLb
    refine ev_bipushZ dX6_phrase_47 rfl ?_
    refine ev_isubZ dX6_phrase_49 ?_
    have hxu : uLb = x + 65 := by
      have q9 := (r2 i x hx).2
      rw [hrV_some huLb] at q9; omega
    refine ev_callSE dX6_phrase_50 cs_X6_108 ce_J28_valueOf rfl rfl (k_valueOf hG (by omega)) (by omega) (Nat.le_of_ble_eq_true rfl) ?_
    rw [show g.2.2.2.2 (64 + (((uLb : Nat) : Int) - 65 + 128).toNat) = cI g x from congrArg g.2.2.2.2 (by omega)]
    obtain ⟨lPLc, lTLc, lGLc, lFLc, ljLc, vLc9, cLc9, mcLc9, lALc, lvLc⟩ := id Lb
    have laLc := lALc.1
    refine ev_callVR dX6_phrase_53 cv_X6_56_J26 ce_J26_add lALc.1 rfl rfl rfl (al_add hG (K0.fr lFLc).1.1 lALc (by rw [hrl]; omega) (Or.inl ⟨_, kc_cI (K0.fr lFLc) (by omega)⟩)) (by omega) (by omega) (by rw [hrl]; omega) (Nat.le_of_ble_eq_true rfl) (fun vLc hLc PLc => ?_)
    obtain ⟨rfl, wLc, cwLc, A2Lc, hwLc, f2Lc⟩ := PLc
    have Lc := LsS.add lPLc lTLc lGLc lFLc ljLc lALc lvLc A2Lc hwLc f2Lc
    refine ev_istore_n dX6_phrase_56 (by decide) rfl ?_
    dsimp only [List.set]
    refine ev_goto (tgt := 27) dX6_phrase_57 (by decide) ?_
    exact hK _ _ _ _ (by omega) (by omega) (by repeat' first | exact rfl | exact trivial | exact vz_eq (by omega) | refine And.intro ?_ ?_) (by show LsS g I h0 ps tb tv cap ne t I (p + (i + 1)) q1 ((ds.take (i + 1)).map (cI g)) _; rw [take_snoc hx, List.map_append]; exact Lc)
  · have hnx : nx t (p + ds.length) 65 72 = false := by rw [nx_D, ← r1]; exact r3
    have hpl : p + ds.length ≤ t.length := by
      obtain ⟨x, hx⟩ : ∃ x, ds[ds.length - 1]? = some x := ⟨_, List.getElem?_eq_getElem (by omega)⟩
      have := isD_lt (r2 _ x hx).1; omega
    obtain ⟨lP, lT, lG, lF, lj, v9, c9, mc9, lA, lv⟩ := id L1
    have la := lA.1
    refine ev_aload_n dX6_phrase_27 rfl ?_
    refine ev_bipushZ dX6_phrase_28 rfl ?_
    refine ev_bipushZ dX6_phrase_30 rfl ?_
    refine ev_callVE dX6_phrase_32 cv_X6_33_X6 ce_X6_isNext lP rfl rfl rfl (k_isNext (d := 0) (lo := 65) (hi := 72) hG lP lT hu9 (by omega) (by omega) (by omega)) (by omega) (Nat.le_of_ble_eq_true rfl) ?_
    refine ev_if_eqB (tgt := 60) dX6_phrase_35 (by decide) (fun c35 => ?_) (fun c35 => by rw [hnx] at c35; cases c35)
    rw [List.take_length, ← r1] at L1
    exact ph_60 hG K0 hB hu9 hl hSI L1 hkd hoff hv9 hp hD hdd9 hd (by omega) (by omega)
theorem phr_ge {k v p : Nat} (hp : p ≤ t.length) : p ≤ endP (phrP t k v p) := by
  have := (phrF_le (c := t) (b := true) hp).2.1
  unfold phrP
  split <;> exact this
theorem enc_ge {n : Nat} {x : PR} (h : n ≤ endP x) : n ≤ endP (encP t x) := by
  cases x with
  | error e => exact h
  | ok r =>
    have h : n ≤ r.2 := h
    show n ≤ endP (if hrV t r.2 = 41 then .ok ([serR r.1], r.2 + 1) else .error r.2)
    split
    · show n ≤ r.2 + 1; omega
    · exact h
theorem app_ge {n : Nat} {x y : PR} (h : n ≤ endP x) (h' : n ≤ endP y) : n ≤ endP (appP x y) := by
  cases x with
  | error e => exact h
  | ok r => cases y with
    | error e => exact h'
    | ok r' => exact h'
theorem map_end (nd : Nd) (x : PR) : endP (mapP nd x) = endP x := by cases x <;> rfl
theorem lay_end (x : PR) : endP (layP x) = endP x := by cases x <;> rfl
theorem prs_ge : ∀ (f m nst p : Nat), m ≤ 3 → p ≤ t.length → 4 * (t.length - p) + m + 1 ≤ f → p ≤ endP (prs t f m nst p) := by
  intro f
  induction f with
  | zero => intro m nst p _ _ h; omega
  | succ f ih =>
    intro m nst p hm hp hf
    rcases (show m = 0 ∨ m = 1 ∨ m = 2 ∨ m = 3 by omega) with rfl | rfl | rfl | rfl
    · rw [prs_0]
      split
      · show p ≤ p + 1; omega
      · split
        · rename_i q
          have := hrV_in q (by decide)
          split
          · rename_i q2
            have := hrV_ge (c := t) (p := p + 1) (by omega)
            have := phr_ge (t := t) (k := 1) (v := (hrV t (p + 1) - 48).toNat) (p := p + 2) (by omega)
            omega
          · show p ≤ p + 1; omega
        · split
          · rename_i q
            have := hrV_ge (c := t) (p := p) (by omega)
            split
            · rw [map_end]
              unfold opnP
              split
              · rename_i q2
                have := hrV_in q2.1 (by decide)
                exact enc_ge (by have := ih 3 (nst + 1) (p + 2) (by omega) (by omega) (by omega); omega)
              · show p ≤ p + 1; omega
            · exact Nat.le_refl _
          · split
            · rename_i q
              have := hrV_in q (by decide)
              unfold opnP
              split
              · exact enc_ge (by have := ih 3 (nst + 1) (p + 1) (by omega) (by omega) (by omega); omega)
              · exact Nat.le_refl _
            · exact phr_ge hp
    · rw [prs_1]
      split
      · rename_i q
        have := isG_in q
        rw [map_end]
        have := ih 0 nst (p + 1) (by omega) (by omega) (by omega)
        omega
      · exact ih 0 nst p (by omega) hp (by omega)
    · rw [prs_2]
      have h1 := ih 1 nst p (by omega) hp (by omega)
      split
      · rename_i q
        have := hrV_in q (by decide)
        exact app_ge h1 (by have := ih 2 nst (endP (prs t f 1 nst p) + 1) (by omega) (by omega) (by omega); omega)
      · exact h1
    · rw [prs_3]
      have h1 := ih 2 nst p (by omega) hp (by omega)
      split
      · rename_i q
        have := hrV_in q (by decide)
        exact app_ge (by rw [lay_end]; exact h1) (by have := ih 3 nst (endP (prs t f 2 nst p) + 1) (by omega) (by omega) (by omega); omega)
      · rw [lay_end]; exact h1
theorem endD {kd vl9 p : Nat} (hD : isD t p = true) (hp : p ≤ t.length) : (runD t (t.length + 1) p).1.length + p ≤ endP (phrP t kd vl9 p) := by
  obtain ⟨r1, -, -⟩ := runD_facts t (t.length + 1) p hp (by omega)
  by_cases h58 : hrV t (runD t (t.length + 1) p).2 = 58
  · by_cases hS : isS t ((runD t (t.length + 1) p).2 + 1) = true
    · rw [phrP_yes hD h58 hS]
      have h1 := isS_lt hS
      have := (runS_facts t (t.length + 1) ((runD t (t.length + 1) p).2 + 1) (by omega) (by omega)).1
      show _ ≤ (runS t (t.length + 1) ((runD t (t.length + 1) p).2 + 1)).2
      omega
    · rw [phrP_noS hD h58 (Bool.eq_false_iff.mpr hS)]
      show _ ≤ (runD t (t.length + 1) p).2 + 1
      omega
  · rw [phrP_no58 hD h58]
    show _ ≤ (runD t (t.length + 1) p).2
    omega
set_option maxRecDepth 100000 in
set_option maxHeartbeats 4000000 in
theorem k_phr6 (hG : GKx g) (K0 : KC g h) (hB : gB g ≤ ps) (hu9 : ∀ u ∈ t, u < 128) (hl : t.length ≤ 100) (hSI : Sub I h) (hIp : I ps = none) {off : Int} {kd vl9 p : Nat} (HP : ParC h ps tb p ne) (HT : SBh g h tb tv cap t) (hkd : kd ≤ 1) (hoff : off = ((if kd = 1 then vl9 else 0 : Nat) : Int)) (hv9 : kd = 1 → 1 ≤ vl9) (hp : p ≤ t.length) (hd : 10 ≤ d) (hc : 20 * endP (phrP t kd vl9 p) + 10 ≤ c + 20 * p) (hk : 1000 * endP (phrP t kd vl9 p) + 100 ≤ k + 1000 * p) : Kc g mX6_phrase d (c) (k) [.ref ps, vz off] h (PrQ g I h ps tb ne 0 (phrP t kd vl9 p)) := by
  refine Kc.of (ls := [some (.ref ps), some (vz off), none, none, none, none, none, none]) (by decide +kernel) (Nat.le_of_ble_eq_true rfl) rfl ?_
  have hpe := phr_ge (t := t) (k := kd) (v := vl9) hp
  refine ev_newC (c' := c - 1) (k' := k - 3) [vz 0, .null, vz 0] dX6_phrase_0 cf_J26 q1615 q376 q152 rfl (by omega) (by omega) (fun qm1 hp_m2 em3 Bm4 Hqm1_m5 fm6 => ?_)
  have HP_m7 := (fm6 _ (ne_no HP em3)).trans HP
  have zm8 := ((Fr.refl (g := g) _ [])).fresh em3
  have Fm9 := ((Fr.refl (g := g) _ [])).alloc (Or.inl ⟨_, Hqm1_m5⟩) fm6 em3
  refine ev_dup dX6_phrase_3 rfl ?_
  refine ev_callVR dX6_phrase_4 ci_X6_51 ce_J26_init Hqm1_m5 rfl rfl rfl (al_init hG Hqm1_m5 Bm4) (by omega) (by omega) (by omega) (Nat.le_of_ble_eq_true rfl) (fun vm10 hp_m10 Pm10 => ?_)
  obtain ⟨rfl, hnm10, frm10⟩ := Pm10
  have HP_m11 := frm10.keep HP_m7 (by simp only [List.mem_cons, List.not_mem_nil, or_false, not_or]; exact (ne_no HP em3))
  have Fm12 := (Fm9).call frm10 (fun x hx => Or.inr (Or.inl (by rw [List.mem_singleton.mp hx]; exact zm8)))
  refine ev_astore_n dX6_phrase_7 (by decide) rfl ?_
  dsimp only [List.set]
  refine ev_aload_n dX6_phrase_8 rfl ?_
  refine ev_aload_n dX6_phrase_9 rfl ?_
  refine ev_bipushZ dX6_phrase_10 rfl ?_
  refine ev_bipushZ dX6_phrase_12 rfl ?_
  have HP2 := HP_m11
  have F2 := Fm12
  have L0 : LsS g I h ps tb tv cap ne t I (p) qm1 ([]) hp_m10 := ⟨HP2, HT.fr F2 (fun q => by cases q) (fun q => by cases q), (Gw.refl hSI).fr0 F2, F2.more (fun x hx => by cases hx), ⟨hIp, hSI.none zm8, zm8⟩, _, _, _, al_new (K0.fr F2).1.1 hnm10 Bm4, Or.inl K0.1.2⟩
  by_cases hD : isD t p = true
  · have hnx : nx t p 65 72 = true := by rw [nx_D]; exact hD
    have hlt := isD_lt hD
    obtain ⟨r1, r2, r3⟩ := runD_facts t (t.length + 1) p hp (by omega)
    skip
    have hdn : 1 ≤ (runD t (t.length + 1) p).1.length := by
      cases q : (runD t (t.length + 1) p).1 with
      | nil => rw [q] at r1; rw [r1] at r3; simp only [List.length_nil, Nat.add_zero] at r3; rw [hD] at r3; cases r3
      | cons a b => rw [List.length_cons]; omega
    have he8 : (runD t (t.length + 1) p).1.length + p ≤ endP (phrP t kd vl9 p) := endD hD hp
    obtain ⟨x0, hx0⟩ : ∃ x, (runD t (t.length + 1) p).1[0]? = some x := ⟨_, List.getElem?_eq_getElem hdn⟩
    have hx8 := runD_ok t (t.length + 1) p x0 (List.mem_of_getElem? hx0)
    have hx2 := (r2 0 x0 hx0).2
    rw [Nat.add_zero] at hx2
    have hrl : ([] : List Nat).length = 0 := rfl
    have hdx : (([] : List Nat) ++ [cI g x0]) = ((runD t (t.length + 1) p).1.take 1).map (cI g) := by rw [take_snoc hx0]; rfl
    refine ev_callVR dX6_phrase_14 cv_X6_72_X6 ce_X6_take L0.1 rfl rfl rfl (k_takeT (lo := 65) (hi := 72) hG L0.1 L0.2.1 hu9 (by omega) (by omega) (by omega) hB hnx) (by omega) (by omega) (by omega) (Nat.le_of_ble_eq_true rfl) (fun vLa hLa PLa => ?_)
    obtain ⟨uLa, huLa, hrLa, rfl, HPLa, frLa⟩ := PLa
    have La := L0.take HPLa frLa
    refine ev_bipushZ dX6_phrase_17 rfl ?_
    refine ev_isubZ dX6_phrase_19 ?_
    have hxu : uLa = x0 + 65 := by
      rw [hrV_some huLa] at hx2; omega
    refine ev_callSE dX6_phrase_20 cs_X6_108 ce_J28_valueOf rfl rfl (k_valueOf hG (by omega)) (by omega) (Nat.le_of_ble_eq_true rfl) ?_
    rw [show g.2.2.2.2 (64 + (((uLa : Nat) : Int) - 65 + 128).toNat) = cI g x0 from congrArg g.2.2.2.2 (by omega)]
    obtain ⟨lPLc, lTLc, lGLc, lFLc, ljLc, vLc9, cLc9, mcLc9, lALc, lvLc⟩ := id La
    have laLc := lALc.1
    refine ev_callVR dX6_phrase_23 cv_X6_56_J26 ce_J26_add lALc.1 rfl rfl rfl (al_add hG (K0.fr lFLc).1.1 lALc (by rw [hrl]; omega) (Or.inl ⟨_, kc_cI (K0.fr lFLc) (by omega)⟩)) (by omega) (by omega) (by rw [hrl]; omega) (Nat.le_of_ble_eq_true rfl) (fun vLc hLc PLc => ?_)
    obtain ⟨rfl, wLc, cwLc, A2Lc, hwLc, f2Lc⟩ := PLc
    have Lc := LsS.add lPLc lTLc lGLc lFLc ljLc lALc lvLc A2Lc hwLc f2Lc
    refine ev_istore_n dX6_phrase_26 (by decide) rfl ?_
    dsimp only [List.set]
    exact ph_27 hG K0 hB hu9 hl hSI (by rw [← hdx]; exact Lc) hkd hoff hv9 hp hD rfl (by omega) (by omega) (by omega)
  · have hD9 : isD t p = false := Bool.eq_false_iff.mpr hD
    have hnx : nx t p 65 72 = false := by rw [nx_D]; exact hD9
    rw [phrP_noD hD9] at hc hk ⊢
    have hc : 20 * p + 10 ≤ c + 20 * p := hc
    have hk : 1000 * p + 100 ≤ k + 1000 * p := hk
    refine ev_callV dX6_phrase_14 cv_X6_72_X6 ce_X6_take L0.1 rfl rfl rfl (k_takeF (lo := 65) (hi := 72) hG L0.1 L0.2.1 hu9 (by omega) (by omega) (by omega) hB hnx) (by omega) (by omega) (by omega) (Nat.le_of_ble_eq_true rfl) (fun v h2 q => ?_) (fun E q h2 r => ?_)
    · obtain ⟨q9, e9, -⟩ := q; cases e9
    · exact evx_out rfl (L0.err r)
end V4S

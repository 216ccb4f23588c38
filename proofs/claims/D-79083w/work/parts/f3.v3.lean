/-! THE COMPONENT: the parser, phrase (printed by gen) -/
section V3S
variable {g : GB} {M : MI} {d c k : Nat} {h : HM}
variable {I h0 : HM} {ps tb tv cap ne : Nat} {t : List Nat}
set_option maxRecDepth 100000 in
set_option maxHeartbeats 4000000 in
theorem ph_tail (hG : GKx g) (K0 : KC g h0) (hB : gB g ≤ ps) (hu9 : ∀ u ∈ t, u < 128) (hl : t.length ≤ 100) (hSI : Sub I h0) {off : Int} {kd vl9 e q1 fm : Nat} {ds ss : List Nat} {x3 x4 : Int} (L : LsS g I h0 ps tb tv cap ne t I (e) q1 (ds.map (cI g)) h) (hkd : kd ≤ 1) (hoff : off = ((offN (kd, vl9, 0, ds, ss) : Nat) : Int)) (hv9 : kd = 1 → 1 ≤ vl9) (hss : (runS t (t.length + 1) fm).1 = ss) (hee : (runS t (t.length + 1) fm).2 = e) (he : fm < e ∧ e ≤ t.length) (hds : ∀ u ∈ ds, u < 8) (hdl : ds.length ≤ 100) (hd : 10 ≤ d) (hc : 4 ≤ c) (hk : 2 * ds.length + t.length + 20 ≤ k) : Ev g mX6_phrase d c k (PrQ g I h0 ps tb ne 0 (.ok ([[(kd, vl9, 0, ds, ss)]], e))) 165 [some (.ref ps), some (vz off), some (.ref q1), some (vz x3), some (vz x4), some (vz ((fm : Nat) : Int)), none, none] [] h := by
  obtain ⟨lP, lT, lG, lF, lj, v9, c9, mc9, lA, lv⟩ := id L
  have la := lA.1
  refine ev_aload_n dX6_phrase_165 rfl ?_
  refine ev_callVE dX6_phrase_166 cv_X6_122_J26 ce_J26_size la rfl rfl rfl (alh_size lA) (by omega) (Nat.le_of_ble_eq_true rfl) ?_
  rw [List.length_map]
  refine ev_newA_int (N := ds.length) (c' := c - 1) (k' := k - ds.length) dX6_phrase_169 (by omega) (by omega) (by omega) (by omega) (by omega) (fun qm1 hp_m2 em3 Bm4 Hqm1_m5 fm6 => ?_)
  have la_m7 := (fm6 _ (ne_no la em3)).trans la
  have zm8 := ((Fr.refl (g := g) _ [])).fresh em3
  have Fm9 := ((Fr.refl (g := g) _ [])).alloc (Or.inr ⟨_, Hqm1_m5, Nat.le_of_ble_eq_true rfl⟩) fm6 em3
  refine ev_astore dX6_phrase_171 (by decide) rfl ?_
  dsimp only [List.set]
  refine ev_iconstZ dX6_phrase_173 ?_
  refine ev_istore dX6_phrase_174 (by decide) rfl ?_
  dsimp only [List.set]
  have L2 := L.scr Fm9 (fun x hx => by cases hx)
  have hA0 := Hqm1_m5
  have b2 := Bm4
  have zqq : h0 qm1 = none := L.2.2.2.1.fresh zm8
  have jqq : I qm1 = none := hSI.none zqq
  clear L
  skip
  refine ev_for (st := []) ds.length (fun i h1 => LsS g I h0 ps tb tv cap ne t I (e) q1 (ds.map (cI g)) h1 ∧ ∃ A : Nat → Int, h1 qm1 = some (.inl (0, (ds.length, .inl (fun j => zI (A j))))) ∧ ∀ j u : Nat, j < i → ds[j]? = some u → A j = ((u : Nat) : Int)) (fun i => [some (.ref ps), some (vz off), some (.ref q1), some (vz x3), some (vz x4), some (vz ((fm : Nat) : Int)), some (.ref qm1), some (vz ((i : Nat) : Int))]) 0 (Nat.zero_le _) ⟨L2, _, hA0, fun j u hj _ => by omega⟩ (by repeat' first | exact rfl | exact trivial | exact vz_eq (by omega) | refine And.intro ?_ ?_) (fun i h1 _ hi hP1 hK => ?_) (fun h1 hP1 => ?_)
  · obtain ⟨L1, A, hA, hA2⟩ := hP1
    obtain ⟨lP, lT, lG, lF, lj, v9, c9, mc9, lA, lv⟩ := id L1
    have la := lA.1
    obtain ⟨TA9, lt, -⟩ := id lT
    obtain ⟨u, hu⟩ : ∃ u, ds[i]? = some u := ⟨_, List.getElem?_eq_getElem hi⟩
    have hu8 := hds u (List.mem_of_getElem? hu)
    have hcx := kc_cI (g := g) (K0.fr lF) (show u < 64 by omega)
    refine ev_iload dX6_phrase_176 rfl ?_
    refine ev_aload dX6_phrase_178 rfl ?_
    refine ev_alenZ dX6_phrase_180 hA rfl ?_
    refine ev_icmp_geZ (tgt := 207) dX6_phrase_181 (by decide) (by omega) (by omega) (fun c181 => by omega) (fun c181 => ?_)
    refine ev_aload dX6_phrase_184 rfl ?_
    refine ev_iload dX6_phrase_186 rfl ?_
    refine ev_aload_n dX6_phrase_188 rfl ?_
    refine ev_iload dX6_phrase_189 rfl ?_
    refine ev_callVE dX6_phrase_191 cv_X6_125_J26 ce_J26_get la rfl rfl rfl (alh_get lA (by rw [List.length_map]; omega) (by rw [List.length_map]; omega) (by rw [Int.toNat_natCast, List.getElem?_map, hu]; rfl)) (by omega) (Nat.le_of_ble_eq_true rfl) ?_
    refine ev_castY dX6_phrase_194 q1826 hcx rfl (Or.inl rfl) ?_
    refine ev_callVE dX6_phrase_197 cv_X6_129_J28 ce_J28_intValue hcx rfl rfl rfl (k_intValue hcx) (by omega) (Nat.le_of_ble_eq_true rfl) ?_
    refine ev_iastY dX6_phrase_200 hA b2 (by omega) trivial (fun hp_1 hA_2 f3 => ?_)
    have la_4 := (f3 _ (ne_of la hA (by simp))).trans la
    have lP_5 := (f3 _ (ne_of lP hA (by simp))).trans lP
    have hcx_6 := (f3 _ (ne_of hcx hA (by simp))).trans hcx
    have F7 := ((Fr.refl (g := g) h1 [qm1])).write (Or.inr ⟨_, hA_2, Nat.le_of_ble_eq_true rfl⟩) f3 b2 (by simp)
    refine ev_iincZ dX6_phrase_201 rfl (by decide) rfl ?_
    dsimp only [List.set]
    refine ev_goto (tgt := 176) dX6_phrase_204 (by decide) ?_
    refine hK _ _ (by repeat' first | exact rfl | exact trivial | exact vz_eq (by omega) | refine And.intro ?_ ?_) ⟨L1.scr F7 (fun x hx => by rw [List.mem_singleton.mp hx]; exact ⟨jqq, zqq, Or.inr ⟨_, hA⟩⟩), _, hA_2, fun j u2 hj hu2 => ?_⟩
    rw [Int.toNat_natCast]
    unfold uz
    by_cases e9 : j = i
    · rw [if_pos e9]; rw [e9, hu] at hu2; rw [Option.some.inj hu2]
    · rw [if_neg e9]; exact hA2 j u2 (by omega) hu2
  · obtain ⟨L1, A, hA, hA2⟩ := hP1
    obtain ⟨lP, lT, lG, lF, lj, v9, c9, mc9, lA, lv⟩ := id L1
    have la := lA.1
    obtain ⟨TA9, lt, -⟩ := id lT
    refine ev_iload dX6_phrase_176 rfl ?_
    refine ev_aload dX6_phrase_178 rfl ?_
    refine ev_alenZ dX6_phrase_180 hA rfl ?_
    refine ev_icmp_geZ (tgt := 207) dX6_phrase_181 (by decide) (by omega) (by omega) (fun c181 => ?_) (fun c181 => by omega)
    refine ev_newC (c' := c - 2) (k' := k - (ds.length + 3)) [vz 0, .null, .null] dX6_phrase_207 cf_X13 q1831 q1832 q163 rfl (by omega) (by omega) (fun qt1 hp_t2 et3 Bt4 Hqt1_t5 ft6 => ?_)
    have la_t7 := (ft6 _ (ne_no la et3)).trans la
    have lP_t8 := (ft6 _ (ne_no lP et3)).trans lP
    have hA_t9 := (ft6 _ (ne_no hA et3)).trans hA
    have lt_t10 := (ft6 _ (ne_no lt et3)).trans lt
    have zt11 := ((Fr.refl (g := g) h1 [])).fresh et3
    have Ft12 := ((Fr.refl (g := g) h1 [])).alloc (Or.inl ⟨_, Hqt1_t5⟩) ft6 et3
    refine ev_dup dX6_phrase_210 rfl ?_
    refine ev_iload_n dX6_phrase_211 rfl ?_
    refine ev_aload_n dX6_phrase_212 rfl ?_
    refine ev_getf dX6_phrase_213 gf_X6_9_X6 lP_t8 rfl ?_
    refine ev_iload dX6_phrase_216 rfl ?_
    refine ev_aload_n dX6_phrase_218 rfl ?_
    refine ev_getf dX6_phrase_219 gf_X6_15_X6 lP_t8 rfl ?_
    refine ev_callVR dX6_phrase_222 (cf_X6_134_J6 hG) ce_J6_subSequence lt_t10 rfl rfl rfl (sb_subSeq (b := fm) (e := e) hG (L1.2.1.fr Ft12 (fun q => by cases q) (fun q => by cases q)) (by omega)) (by omega) (by omega) (by omega) (Nat.le_of_ble_eq_true rfl) (fun vS hS9 PS => ?_)
    obtain ⟨sq, sw, rfl, zs1, zs2, bs1, bs2, hST, frS⟩ := PS
    have la_t13 := frS.keep la_t7 (fun q => by cases q)
    have lP_t14 := frS.keep lP_t8 (fun q => by cases q)
    have hA_t15 := frS.keep hA_t9 (fun q => by cases q)
    have lt_t16 := frS.keep lt_t10 (fun q => by cases q)
    have Hqt1_t17 := frS.keep Hqt1_t5 (fun q => by cases q)
    have Ft18 := (Ft12).call frS nil_in
    obtain ⟨sA9, sx9, sy9, hsq, hsw, hbt9, hln9⟩ := id hST
    refine ev_callVE dX6_phrase_227 (cf_X6_138_J7 hG) ce_J7_toString hsq rfl rfl rfl (st_toString hST) (by omega) (Nat.le_of_ble_eq_true rfl) ?_
    refine ev_aload dX6_phrase_232 rfl ?_
    refine ev_callVR dX6_phrase_234 ci_X6_142 ce_X13_init Hqt1_t17 rfl rfl rfl (k_i13 Hqt1_t17 Bt4) (by omega) (by omega) (by omega) (Nat.le_of_ble_eq_true rfl) (fun vI hp_t19 PI => ?_)
    obtain ⟨rfl, hnI, frI⟩ := PI
    have la_t20 := frI.keep la_t13 (by simp only [List.mem_cons, List.not_mem_nil, or_false, not_or]; exact (ne_no la et3))
    have lP_t21 := frI.keep lP_t14 (by simp only [List.mem_cons, List.not_mem_nil, or_false, not_or]; exact (ne_no lP et3))
    have hA_t22 := frI.keep hA_t15 (by simp only [List.mem_cons, List.not_mem_nil, or_false, not_or]; exact (ne_no hA et3))
    have lt_t23 := frI.keep lt_t16 (by simp only [List.mem_cons, List.not_mem_nil, or_false, not_or]; exact (ne_no lt et3))
    have Ft24 := (Ft18).call frI (fun x hx => Or.inr (Or.inl (by rw [List.mem_singleton.mp hx]; exact zt11)))
    refine ev_areturn dX6_phrase_237 rfl (Or.inl ⟨_, rfl⟩) (Or.inr ⟨_, rfl⟩) ?_
    have hT2 := steps_txt hu9 (f := t.length + 1) (p := fm) (by omega) (by omega)
    rw [hss, hee] at hT2
    have F9 := Ft24
    have L9 := L1.scr F9 (fun x hx => by cases hx)
    have zsq : h0 sq = none := L1.2.2.2.1.fresh ((Ft12).fresh zs1)
    have zsw : h0 sw = none := L1.2.2.2.1.fresh ((Ft12).fresh zs2)
    have zqp : h0 qt1 = none := L1.2.2.2.1.fresh zt11
    have G0 := L9.2.2.1
    have hSI0 : Sub I h0 := hSI
    have G1 := G0.add hSI hA_t22 zqq
    have s1 := G0.subadd hA_t22
    obtain ⟨sA8, sx8, sy8, hsq8, hsw8, hbt8, hln8⟩ := id (hST.fr frI (fun _ q => ne_of hsq Hqt1_t17 (by simp) (List.mem_singleton.mp q)) (fun _ q => ne_of hsw Hqt1_t17 (by simp) (List.mem_singleton.mp q)))
    have G2 := G1.add hSI hsw8 zsw
    have s2 := G1.subadd hsw8
    have G3 := G2.add hSI hsq8 zsq
    have s3 := G2.subadd hsq8
    have G4 := G3.add hSI hnI zqp
    have s4 := G3.subadd hnI
    refine ⟨qt1, 1, _, rfl, G4, ?_, L9.1, L9.2.2.2.1⟩
    have htd : tidy (nodR 0 [[(kd, vl9, 0, ds, ss)]]) = (kd, vl9, 0, ds, ss) :: (([] : List (List Nd)).flatten) := by
      show tidy [(kd, vl9, 0, ds, ss)] = _
      exact tidy_t (by unfold kpNd; rw [decide_eq_true (show kd < 6 by omega)]; rfl)
    rw [htd]
    refine ⟨_, [], [], rfl, rfl, ⟨fun _ => rfl, fun _ => (show kd ≤ 2 by omega)⟩, rfl, ⟨fun _ => ⟨qm1, sq, sw, A, rfl, ?_, s4 _ _ (s3 _ _ (s2 _ _ (hs_same _ _ _))), fun j u hu => hA2 j u (List.getElem?_eq_some_iff.mp hu).1 hu, ?_, fun q => hv9 q, (show ds.length < 1000000 by omega)⟩, fun q => absurd q (show ¬ kd = 2 by omega), fun q => absurd q (show ¬ kd = 3 by omega), fun q => absurd q (show ¬ kd = 4 by omega), fun q => absurd q (show ¬ kd = 5 by omega), fun q => absurd q (show ¬ 6 ≤ kd by omega)⟩, fun i q c h1 h2 => by simp at h1⟩
    · rw [hs_same, ← hoff]
    · show STh _ sq sw (ss.map sgN)
      rw [← hT2]
      exact ⟨sA8, sx8, sy8, s4 _ _ (hs_same _ _ _), s4 _ _ (s3 _ _ (hs_same _ _ _)), hbt8, hln8⟩
end V3S

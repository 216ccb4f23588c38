/-! THE COMPONENT: renamed (printed by gen) -/
section S2S
variable {g : GB} {M : MI} {d c k : Nat} {h : HM}
/-- what renaming costs -/
def rnC (nd : Nd) : Nat := 2 + nd.2.2.1
def rnK (nd : Nd) : Nat := 5 + nd.2.2.2.1.length + nd.2.2.1 * nd.2.2.1 + 9 * nd.2.2.1
def rC (l : List Nd) : Nat := (l.map rnC).sum
def rK (l : List Nd) : Nat := (l.map rnK).sum
theorem sum_flat (f : Nd → Nat) (cs : List (List Nd)) : (cs.flatten.map f).sum = (cs.map (fun c => (c.map f).sum)).sum := by
  induction cs with
  | nil => rfl
  | cons c t ih => rw [List.flatten_cons, List.map_append, List.sum_append, ih]; rfl
theorem sum_cadd (f : List Nd → Nat) (b : Nat) (cs : List (List Nd)) : (cs.map (fun c => b + f c)).sum = b * cs.length + (cs.map f).sum := by
  induction cs with
  | nil => rfl
  | cons c t ih => simp only [List.map_cons, List.sum_cons, ih, List.length_cons, Nat.mul_succ]; omega
/-- what is left for the parts from the i-th on -/
def rnCs (cs : List (List Nd)) (i : Nat) : Nat := 1 + ((cs.drop i).map (fun c => 1 + rC c)).sum
def rnKs (cs : List (List Nd)) (i : Nat) : Nat := 2 + (cs.length * cs.length + 9 * cs.length - (i * i + 9 * i)) + ((cs.drop i).map rK).sum
theorem drop_cons' {α : Type} {l : List α} {i : Nat} {x : α} (h : l[i]? = some x) : l.drop i = x :: l.drop (i + 1) := by
  obtain ⟨hi, e⟩ := List.getElem?_eq_some_iff.mp h
  rw [← e]; exact (List.drop_eq_getElem_cons hi)
theorem rnCs_step {cs : List (List Nd)} {i : Nat} {cc : List Nd} (h : cs[i]? = some cc) : rnCs cs i = 1 + rC cc + rnCs cs (i + 1) := by
  unfold rnCs
  rw [drop_cons' h, List.map_cons, List.sum_cons]; omega
theorem rnKs_step {cs : List (List Nd)} {i : Nat} {cc : List Nd} (h : cs[i]? = some cc) : rnKs cs i = 2 * i + 10 + rK cc + rnKs cs (i + 1) := by
  unfold rnKs
  rw [drop_cons' h, List.map_cons, List.sum_cons]
  have hi := (List.getElem?_eq_some_iff.mp h).1
  have h1 : (i + 1) * (i + 1) ≤ cs.length * cs.length := Nat.mul_le_mul hi hi
  have h2 : (i + 1) * (i + 1) = i * i + 2 * i + 1 := by rw [Nat.succ_mul, Nat.mul_succ]; omega
  omega
theorem rnCs_0 (cs : List (List Nd)) : rnCs cs 0 = 1 + cs.length + rC cs.flatten := by
  unfold rnCs rC; rw [List.drop_zero, sum_cadd, sum_flat]; omega
theorem rnKs_0 (cs : List (List Nd)) : rnKs cs 0 = 2 + cs.length * cs.length + 9 * cs.length + rK cs.flatten := by
  unfold rnKs rK; rw [List.drop_zero, sum_flat]; omega
theorem rnCs_n (cs : List (List Nd)) : rnCs cs cs.length = 1 := by unfold rnCs; rw [List.drop_length]; rfl
theorem rnKs_n (cs : List (List Nd)) : rnKs cs cs.length = 2 := by unfold rnKs; rw [List.drop_length, Nat.sub_self]; rfl
/-- a layer's or series' cells -/
def SevAt (J : HM) (r : Nat) (b : Bool) (rs : List Nat) : Prop := ∃ (pl v cap : Nat) (mc : Int) (f : Nat → Option Nat), J r = some (.inr (12, [vz (bI b), .ref pl])) ∧ J pl = some (.inr (29, [vz mc, .ref v, vz ((rs.length : Nat) : Int)])) ∧ J v = some (.inl (9, (cap, .inr (.inr (.inr (.inr (f))))))) ∧ (∀ i : Nat, i < rs.length → f i = rs[i]?) ∧ rs.length ≤ cap
/-- how a node renames itself: to a tree that is new but for what it shares -/
def RnK (g : GB) (I : HM) (D κ q C K nm : Nat) (N : Nat → Int) (T : HM → Nat → Prop) : Prop := ∀ I' h : HM, Sub I I' → Sub I' h → KC g h → h nm = some (.inl (0, (8, .inl (fun j => zI (N j))))) → Kc g (fam_renamed κ) D C K [.ref q, .ref nm] h (rR (fun v h' => ∃ (r : Nat) (J : HM), v = some (.ref r) ∧ Gw I' h J h' ∧ T J r ∧ Fr g h h' []))
set_option maxRecDepth 100000 in
set_option maxHeartbeats 4000000 in
theorem k_rn10 {a q κ D C K nm : Nat} {n : Int} {N : Nat → Int} {I : HM} {T : HM → Nat → Prop} (hG : GKx g) (hSI : Sub I h) (hKC : KC g h) (hnm : h nm = some (.inl (0, (8, .inl (fun j => zI (N j)))))) (ha : h a = some (.inr (7, [.ref q, vz n]))) (hkc : ∃ fs, I q = some (.inr (nCi κ, fs))) (hk : RnK g I D κ q C K nm N T) (hd : D + 4 ≤ d) (hc : C + 1 ≤ c) (hk9 : K + 2 ≤ k) : Kc g mX10_renamed d (c) (k) [.ref a, .ref nm] h (rR (fun v h' => ∃ (r : Nat) (J : HM), v = some (.ref r) ∧ Gw I h J h' ∧ (∃ r0 : Nat, J r = some (.inr (7, [.ref r0, vz n])) ∧ ∃ J0 : HM, Sub J0 J ∧ T J0 r0) ∧ Fr g h h' [])) := by
  refine Kc.of (ls := [some (.ref a), some (.ref nm)]) (by decide +kernel) (Nat.le_of_ble_eq_true rfl) rfl ?_
  refine ev_newC (c' := C) (k' := K) [.null, vz 0] dX10_renamed_0 cf_X10 q1296 q1708 q156 rfl (by omega) (by omega) (fun q1 hp_2 e3 B4 Hq1_5 f6 => ?_)
  have ha_7 := (f6 _ (ne_no ha e3)).trans ha
  have hnm_8 := (f6 _ (ne_no hnm e3)).trans hnm
  have z9 := ((Fr.refl (g := g) _ [])).fresh e3
  have F10 := ((Fr.refl (g := g) _ [])).alloc (Or.inl ⟨_, Hq1_5⟩) f6 e3
  refine ev_dup dX10_renamed_3 rfl ?_
  refine ev_aload_n dX10_renamed_4 rfl ?_
  refine ev_getf dX10_renamed_5 gf_X10_7_X10 ha_7 rfl ?_
  refine ev_aload_n dX10_renamed_8 rfl ?_
  refine ev_getf dX10_renamed_9 gf_X10_20_X10 ha_7 rfl ?_
  refine ev_aload_n dX10_renamed_12 rfl ?_
  have hI_11 := hSI.fr0 F10
  have K_11 := hKC.fr F10
  refine ev_callNR dX10_renamed_13 (nv_X10_35 hG) fe_renamed (hkc.imp (fun fs e => hI_11 _ _ ((Sub.refl _) _ _ e))) rfl rfl (hk I hp_2 (Sub.refl _) hI_11 K_11 hnm_8) (by omega) (by omega) (by omega) (Nat.le_of_ble_eq_true rfl) (fun v11 hp_11 P11 => ?_)
  obtain ⟨r, J, rfl, G11, T11, fr11⟩ := P11
  have ha_12 := fr11.keep ha_7 (fun q => by cases q)
  have hnm_13 := fr11.keep hnm_8 (fun q => by cases q)
  have Hq1_14 := fr11.keep Hq1_5 (fun q => by cases q)
  have F15 := (F10).call fr11 nil_in
  refine ev_callVR dX10_renamed_16 ci_X10_39 ce_X10_init Hq1_14 rfl rfl rfl (k_i10 Hq1_14 B4) (by omega) (by omega) (by omega) (Nat.le_of_ble_eq_true rfl) (fun v16 hp_16 P16 => ?_)
  obtain ⟨rfl, hn16, fr16⟩ := P16
  have ha_17 := fr16.keep ha_12 (by simp only [List.mem_cons, List.not_mem_nil, or_false, not_or]; exact (ne_no ha e3))
  have hnm_18 := fr16.keep hnm_13 (by simp only [List.mem_cons, List.not_mem_nil, or_false, not_or]; exact (ne_no hnm e3))
  have F19 := (F15).call fr16 (fun x hx => Or.inr (Or.inl (by rw [List.mem_singleton.mp hx]; exact z9)))
  refine ev_areturn dX10_renamed_19 rfl (Or.inl ⟨_, rfl⟩) (Or.inr ⟨_, rfl⟩) ?_
  have hJ9 : J q1 = none := G11.nn (by rw [Hq1_5]; exact fun q => by cases q) (hSI.none z9)
  have Gh : Gw I h J hp_11 := ⟨G11.1, G11.2.1, fun x hx => by
    rcases G11.2.2 x hx with r9 | r9
    · exact Or.inl r9
    · exact Or.inr ⟨F10.fresh r9.1, r9.2⟩⟩
  have G9 := Gh.fr fr16 (fun x hx => Or.inl (by rw [List.mem_singleton.mp hx]; exact hJ9))
  exact ⟨_, rfl, q1, hs J q1 _, rfl, G9.add hSI hn16 z9, ⟨r, hs_same _ _ _, J, G9.subadd hn16, T11⟩, F19⟩
set_option maxRecDepth 100000 in
set_option maxHeartbeats 4000000 in
theorem k_rn14 {a q κ D C K nm : Nat} {N : Nat → Int} {I : HM} {T : HM → Nat → Prop} (hG : GKx g) (hSI : Sub I h) (hKC : KC g h) (hnm : h nm = some (.inl (0, (8, .inl (fun j => zI (N j)))))) (ha : h a = some (.inr (10, [.ref q]))) (hkc : ∃ fs, I q = some (.inr (nCi κ, fs))) (hk : RnK g I D κ q C K nm N T) (hd : D + 4 ≤ d) (hc : C + 1 ≤ c) (hk9 : K + 2 ≤ k) : Kc g mX14_renamed d (c) (k) [.ref a, .ref nm] h (rR (fun v h' => ∃ (r : Nat) (J : HM), v = some (.ref r) ∧ Gw I h J h' ∧ (∃ r0 : Nat, J r = some (.inr (10, [.ref r0])) ∧ ∃ J0 : HM, Sub J0 J ∧ T J0 r0) ∧ Fr g h h' [])) := by
  refine Kc.of (ls := [some (.ref a), some (.ref nm)]) (by decide +kernel) (Nat.le_of_ble_eq_true rfl) rfl ?_
  refine ev_newC (c' := C) (k' := K) [.null] dX14_renamed_0 cf_X14 q2248 q1912 q164 rfl (by omega) (by omega) (fun q1 hp_2 e3 B4 Hq1_5 f6 => ?_)
  have ha_7 := (f6 _ (ne_no ha e3)).trans ha
  have hnm_8 := (f6 _ (ne_no hnm e3)).trans hnm
  have z9 := ((Fr.refl (g := g) _ [])).fresh e3
  have F10 := ((Fr.refl (g := g) _ [])).alloc (Or.inl ⟨_, Hq1_5⟩) f6 e3
  refine ev_dup dX14_renamed_3 rfl ?_
  refine ev_aload_n dX14_renamed_4 rfl ?_
  refine ev_getf dX14_renamed_5 gf_X14_9_X14 ha_7 rfl ?_
  refine ev_aload_n dX14_renamed_8 rfl ?_
  have hI_11 := hSI.fr0 F10
  have K_11 := hKC.fr F10
  refine ev_callNR dX14_renamed_9 (nv_X14_25 hG) fe_renamed (hkc.imp (fun fs e => hI_11 _ _ ((Sub.refl _) _ _ e))) rfl rfl (hk I hp_2 (Sub.refl _) hI_11 K_11 hnm_8) (by omega) (by omega) (by omega) (Nat.le_of_ble_eq_true rfl) (fun v11 hp_11 P11 => ?_)
  obtain ⟨r, J, rfl, G11, T11, fr11⟩ := P11
  have ha_12 := fr11.keep ha_7 (fun q => by cases q)
  have hnm_13 := fr11.keep hnm_8 (fun q => by cases q)
  have Hq1_14 := fr11.keep Hq1_5 (fun q => by cases q)
  have F15 := (F10).call fr11 nil_in
  refine ev_callVR dX14_renamed_12 ci_X14_29 ce_X14_init Hq1_14 rfl rfl rfl (k_i14 Hq1_14 B4) (by omega) (by omega) (by omega) (Nat.le_of_ble_eq_true rfl) (fun v16 hp_16 P16 => ?_)
  obtain ⟨rfl, hn16, fr16⟩ := P16
  have ha_17 := fr16.keep ha_12 (by simp only [List.mem_cons, List.not_mem_nil, or_false, not_or]; exact (ne_no ha e3))
  have hnm_18 := fr16.keep hnm_13 (by simp only [List.mem_cons, List.not_mem_nil, or_false, not_or]; exact (ne_no hnm e3))
  have F19 := (F15).call fr16 (fun x hx => Or.inr (Or.inl (by rw [List.mem_singleton.mp hx]; exact z9)))
  refine ev_areturn dX14_renamed_15 rfl (Or.inl ⟨_, rfl⟩) (Or.inr ⟨_, rfl⟩) ?_
  have hJ9 : J q1 = none := G11.nn (by rw [Hq1_5]; exact fun q => by cases q) (hSI.none z9)
  have Gh : Gw I h J hp_11 := ⟨G11.1, G11.2.1, fun x hx => by
    rcases G11.2.2 x hx with r9 | r9
    · exact Or.inl r9
    · exact Or.inr ⟨F10.fresh r9.1, r9.2⟩⟩
  have G9 := Gh.fr fr16 (fun x hx => Or.inl (by rw [List.mem_singleton.mp hx]; exact hJ9))
  exact ⟨_, rfl, q1, hs J q1 _, rfl, G9.add hSI hn16 z9, ⟨r, hs_same _ _ _, J, G9.subadd hn16, T11⟩, F19⟩
set_option maxRecDepth 100000 in
set_option maxHeartbeats 4000000 in
theorem k_rn15 {a q κ D C K nm : Nat} {N : Nat → Int} {I : HM} {T : HM → Nat → Prop} (hG : GKx g) (hSI : Sub I h) (hKC : KC g h) (hnm : h nm = some (.inl (0, (8, .inl (fun j => zI (N j)))))) (ha : h a = some (.inr (11, [.ref q]))) (hkc : ∃ fs, I q = some (.inr (nCi κ, fs))) (hk : RnK g I D κ q C K nm N T) (hd : D + 4 ≤ d) (hc : C + 1 ≤ c) (hk9 : K + 2 ≤ k) : Kc g mX15_renamed d (c) (k) [.ref a, .ref nm] h (rR (fun v h' => ∃ (r : Nat) (J : HM), v = some (.ref r) ∧ Gw I h J h' ∧ (∃ r0 : Nat, J r = some (.inr (11, [.ref r0])) ∧ ∃ J0 : HM, Sub J0 J ∧ T J0 r0) ∧ Fr g h h' [])) := by
  refine Kc.of (ls := [some (.ref a), some (.ref nm)]) (by decide +kernel) (Nat.le_of_ble_eq_true rfl) rfl ?_
  refine ev_newC (c' := C) (k' := K) [.null] dX15_renamed_0 cf_X15 q2259 q1937 q165 rfl (by omega) (by omega) (fun q1 hp_2 e3 B4 Hq1_5 f6 => ?_)
  have ha_7 := (f6 _ (ne_no ha e3)).trans ha
  have hnm_8 := (f6 _ (ne_no hnm e3)).trans hnm
  have z9 := ((Fr.refl (g := g) _ [])).fresh e3
  have F10 := ((Fr.refl (g := g) _ [])).alloc (Or.inl ⟨_, Hq1_5⟩) f6 e3
  refine ev_dup dX15_renamed_3 rfl ?_
  refine ev_aload_n dX15_renamed_4 rfl ?_
  refine ev_getf dX15_renamed_5 gf_X15_9_X15 ha_7 rfl ?_
  refine ev_aload_n dX15_renamed_8 rfl ?_
  have hI_11 := hSI.fr0 F10
  have K_11 := hKC.fr F10
  refine ev_callNR dX15_renamed_9 (nv_X15_25 hG) fe_renamed (hkc.imp (fun fs e => hI_11 _ _ ((Sub.refl _) _ _ e))) rfl rfl (hk I hp_2 (Sub.refl _) hI_11 K_11 hnm_8) (by omega) (by omega) (by omega) (Nat.le_of_ble_eq_true rfl) (fun v11 hp_11 P11 => ?_)
  obtain ⟨r, J, rfl, G11, T11, fr11⟩ := P11
  have ha_12 := fr11.keep ha_7 (fun q => by cases q)
  have hnm_13 := fr11.keep hnm_8 (fun q => by cases q)
  have Hq1_14 := fr11.keep Hq1_5 (fun q => by cases q)
  have F15 := (F10).call fr11 nil_in
  refine ev_callVR dX15_renamed_12 ci_X15_29 ce_X15_init Hq1_14 rfl rfl rfl (k_i15 Hq1_14 B4) (by omega) (by omega) (by omega) (Nat.le_of_ble_eq_true rfl) (fun v16 hp_16 P16 => ?_)
  obtain ⟨rfl, hn16, fr16⟩ := P16
  have ha_17 := fr16.keep ha_12 (by simp only [List.mem_cons, List.not_mem_nil, or_false, not_or]; exact (ne_no ha e3))
  have hnm_18 := fr16.keep hnm_13 (by simp only [List.mem_cons, List.not_mem_nil, or_false, not_or]; exact (ne_no hnm e3))
  have F19 := (F15).call fr16 (fun x hx => Or.inr (Or.inl (by rw [List.mem_singleton.mp hx]; exact z9)))
  refine ev_areturn dX15_renamed_15 rfl (Or.inl ⟨_, rfl⟩) (Or.inr ⟨_, rfl⟩) ?_
  have hJ9 : J q1 = none := G11.nn (by rw [Hq1_5]; exact fun q => by cases q) (hSI.none z9)
  have Gh : Gw I h J hp_11 := ⟨G11.1, G11.2.1, fun x hx => by
    rcases G11.2.2 x hx with r9 | r9
    · exact Or.inl r9
    · exact Or.inr ⟨F10.fresh r9.1, r9.2⟩⟩
  have G9 := Gh.fr fr16 (fun x hx => Or.inl (by rw [List.mem_singleton.mp hx]; exact hJ9))
  exact ⟨_, rfl, q1, hs J q1 _, rfl, G9.add hSI hn16 z9, ⟨r, hs_same _ _ _, J, G9.subadd hn16, T11⟩, F19⟩
set_option maxRecDepth 100000 in
set_option maxHeartbeats 4000000 in
theorem k_rn13 {a da st nm x y : Nat} {n : Int} {N D : Nat → Int} {ds : List Nat} {I : HM} (hG : GKx g) (hSI : Sub I h) (hKC : KC g h) (hnm : h nm = some (.inl (0, (8, .inl (fun j => zI (N j)))))) (ha : h a = some (.inr (9, [vz n, .ref da, .ref st]))) (hda : h da = some (.inl (0, (ds.length, .inl (fun j => zI (D j)))))) (hD : ∀ j u : Nat, ds[j]? = some u → D j = (u : Int)) (hds : ∀ u ∈ ds, u < 8) (hNm : ∀ e : Nat, e < 8 → N e = ((exN x y e : Nat) : Int)) (hl : ds.length < 1000000) (hd : 4 ≤ d) (hc : 2 ≤ c) (hk9 : ds.length + 3 ≤ k) : Kc g mX13_renamed d (c) (k) [.ref a, .ref nm] h (rR (fun v h' => ∃ (r : Nat) (J : HM), v = some (.ref r) ∧ Gw I h J h' ∧ (∃ (da : Nat) (A : Nat → Int), J r = some (.inr (9, [vz n, .ref da, .ref st])) ∧ J da = some (.inl (0, (ds.length, .inl (fun j => zI (A j))))) ∧ ∀ j u : Nat, ds[j]? = some u → A j = ((exN x y u : Nat) : Int)) ∧ Fr g h h' [])) := by
  refine Kc.of (ls := [some (.ref a), some (.ref nm), none, none]) (by decide +kernel) (Nat.le_of_ble_eq_true rfl) rfl ?_
  refine ev_aload_n dX13_renamed_0 rfl ?_
  refine ev_getf dX13_renamed_1 gf_X13_19_X13 ha rfl ?_
  refine ev_alenZ dX13_renamed_4 hda rfl ?_
  refine ev_newA_int (N := ds.length) (c' := c - 1) (k' := k - ds.length) dX13_renamed_5 (by omega) (by omega) (by omega) (by omega) (by omega) (fun q1 hp_2 e3 B4 Hq1_5 f6 => ?_)
  have ha_7 := (f6 _ (ne_no ha e3)).trans ha
  have hda_8 := (f6 _ (ne_no hda e3)).trans hda
  have hnm_9 := (f6 _ (ne_no hnm e3)).trans hnm
  have z10 := ((Fr.refl (g := g) _ [])).fresh e3
  have F11 := ((Fr.refl (g := g) _ [])).alloc (Or.inr ⟨_, Hq1_5, Nat.le_of_ble_eq_true rfl⟩) f6 e3
  refine ev_astore_n dX13_renamed_7 (by decide) rfl ?_
  dsimp only [List.set]
  refine ev_iconstZ dX13_renamed_8 ?_
  refine ev_istore_n dX13_renamed_9 (by decide) rfl ?_
  dsimp only [List.set]
  have Bq := B4
  have zq := z10
  have K0 := Hq1_5
  have F0 := F11
  generalize hp_2 = h0 at K0 F0 ⊢
  refine ev_for (st := []) ds.length (fun i h1 => ∃ A : Nat → Int, h1 q1 = some (.inl (0, (ds.length, .inl (fun j => zI (A j))))) ∧ (∀ (j u : Nat), j < i → ds[j]? = some u → A j = ((exN x y u : Nat) : Int)) ∧ Fr g h h1 []) (fun i => [some (.ref a), some (.ref nm), some (.ref q1), some (vz ((i : Nat) : Int))]) 0 (Nat.zero_le _) ⟨_, K0, fun j u hj => by omega, F0⟩ ⟨rfl, rfl, rfl, rfl, trivial⟩ (fun i h1 _ hi hP1 hN => ?_) (fun h1 hP1 => ?_)
  · obtain ⟨A, hA, hA2, F1⟩ := hP1
    have ha1 := F1.keep ha (fun q => by cases q)
    have hda1 := F1.keep hda (fun q => by cases q)
    have hnm1 := F1.keep hnm (fun q => by cases q)
    obtain ⟨u, hu⟩ : ∃ u, ds[i]? = some u := ⟨_, List.getElem?_eq_getElem hi⟩
    have hu8 := hds u (List.mem_of_getElem? hu)
    have hDx : D ((i : Nat) : Int).toNat = ((u : Nat) : Int) := by rw [Int.toNat_natCast]; exact hD i u hu
    have hNu : N ((u : Nat) : Int).toNat = ((exN x y u : Nat) : Int) := by rw [Int.toNat_natCast]; exact hNm u hu8
    refine ev_iload_n dX13_renamed_10 rfl ?_
    refine ev_aload_n dX13_renamed_11 rfl ?_
    refine ev_alenZ dX13_renamed_12 hA rfl ?_
    refine ev_icmp_geZ (tgt := 33) dX13_renamed_13 (by decide) (by omega) (by omega) (fun c13 => by omega) (fun c13 => ?_)
    refine ev_aload_n dX13_renamed_16 rfl ?_
    refine ev_iload_n dX13_renamed_17 rfl ?_
    refine ev_aload_n dX13_renamed_18 rfl ?_
    refine ev_aload_n dX13_renamed_19 rfl ?_
    refine ev_getf dX13_renamed_20 gf_X13_19_X13 ha1 rfl ?_
    refine ev_iload_n dX13_renamed_23 rfl ?_
    refine ev_ialdY dX13_renamed_24 hda1 (by omega) ?_
    rw [hDx]
    refine ev_ialdY dX13_renamed_25 hnm1 (by omega) ?_
    rw [hNu]
    refine ev_iastY dX13_renamed_26 hA Bq (by omega) trivial (fun hp_1 hA_2 f3 => ?_)
    have ha1_4 := (f3 _ (ne_of ha1 hA (by simp))).trans ha1
    have hda1_5 := (f3 _ (ne_no hda zq)).trans hda1
    have hnm1_6 := (f3 _ (ne_no hnm zq)).trans hnm1
    have F7 := (F1).writeN (Or.inr ⟨_, hA_2, Nat.le_of_ble_eq_true rfl⟩) f3 zq
    refine ev_iincZ dX13_renamed_27 rfl (by decide) rfl ?_
    dsimp only [List.set]
    refine ev_goto (tgt := 10) dX13_renamed_30 (by decide) ?_
    refine hN _ _ (by repeat' first | exact rfl | exact trivial | exact vz_eq (by omega) | refine And.intro ?_ ?_) ⟨_, hA_2, fun j u2 hj hu2 => ?_, F7⟩
    rw [Int.toNat_natCast]
    unfold uz
    by_cases e : j = i
    · rw [if_pos e]; rw [e, hu] at hu2; rw [Option.some.inj hu2]
    · rw [if_neg e]; exact hA2 j u2 (by omega) hu2
  · obtain ⟨A, hA, hA2, F1⟩ := hP1
    have ha1 := F1.keep ha (fun q => by cases q)
    have hda1 := F1.keep hda (fun q => by cases q)
    have hnm1 := F1.keep hnm (fun q => by cases q)
    refine ev_iload_n dX13_renamed_10 rfl ?_
    refine ev_aload_n dX13_renamed_11 rfl ?_
    refine ev_alenZ dX13_renamed_12 hA rfl ?_
    refine ev_icmp_geZ (tgt := 33) dX13_renamed_13 (by decide) (by omega) (by omega) (fun c13 => ?_) (fun c13 => by omega)
    refine ev_newC (c' := 0) (k' := 0) [vz 0, .null, .null] dX13_renamed_33 cf_X13 q2252 q1832 q163 rfl (by omega) (by omega) (fun qt1 hp_t2 et3 Bt4 Hqt1_t5 ft6 => ?_)
    have ha1_t7 := (ft6 _ (ne_no ha1 et3)).trans ha1
    have hda1_t8 := (ft6 _ (ne_no hda1 et3)).trans hda1
    have hnm1_t9 := (ft6 _ (ne_no hnm1 et3)).trans hnm1
    have hA_t10 := (ft6 _ (ne_no hA et3)).trans hA
    have zt11 := (F1).fresh et3
    have Ft12 := (F1).alloc (Or.inl ⟨_, Hqt1_t5⟩) ft6 et3
    refine ev_dup dX13_renamed_36 rfl ?_
    refine ev_aload_n dX13_renamed_37 rfl ?_
    refine ev_getf dX13_renamed_38 gf_X13_9_X13 ha1_t7 rfl ?_
    refine ev_aload_n dX13_renamed_41 rfl ?_
    refine ev_getf dX13_renamed_42 gf_X13_15_X13 ha1_t7 rfl ?_
    refine ev_aload_n dX13_renamed_45 rfl ?_
    refine ev_callVR dX13_renamed_46 ci_X13_74 ce_X13_init Hqt1_t5 rfl rfl rfl (k_i13 Hqt1_t5 Bt4) (by omega) (by omega) (by omega) (Nat.le_of_ble_eq_true rfl) (fun vt13 hp_t13 Pt13 => ?_)
    obtain ⟨rfl, hnt13, frt13⟩ := Pt13
    have ha1_t14 := frt13.keep ha1_t7 (by simp only [List.mem_cons, List.not_mem_nil, or_false, not_or]; exact (ne_no ha1 et3))
    have hda1_t15 := frt13.keep hda1_t8 (by simp only [List.mem_cons, List.not_mem_nil, or_false, not_or]; exact (ne_no hda1 et3))
    have hnm1_t16 := frt13.keep hnm1_t9 (by simp only [List.mem_cons, List.not_mem_nil, or_false, not_or]; exact (ne_no hnm1 et3))
    have hA_t17 := frt13.keep hA_t10 (by simp only [List.mem_cons, List.not_mem_nil, or_false, not_or]; exact (ne_no hA et3))
    have Ft18 := (Ft12).call frt13 (fun x hx => Or.inr (Or.inl (by rw [List.mem_singleton.mp hx]; exact zt11)))
    refine ev_areturn dX13_renamed_49 rfl (Or.inl ⟨_, rfl⟩) (Or.inr ⟨_, rfl⟩) ?_
    have G0 := (Gw.refl hSI).fr0 Ft18
    have G1 := G0.add hSI hA_t17 zq
    have sA := G0.subadd hA_t17
    skip
    have G2 := G1.add hSI hnt13 zt11
    have sB := G1.subadd hnt13
    exact ⟨_, rfl, qt1, _, rfl, G2, ⟨q1, A, hs_same _ _ _, sB _ _ (hs_same _ _ _), fun j u hu => hA2 j u (List.getElem?_eq_some_iff.mp hu).1 hu⟩, Ft18⟩
set_option maxRecDepth 100000 in
set_option maxHeartbeats 4000000 in
theorem k_rn12 {a nm : Nat} {N : Nat → Int} {I : HM} (hG : GKx g) (hSI : Sub I h) (hKC : KC g h) (hnm : h nm = some (.inl (0, (8, .inl (fun j => zI (N j)))))) : Kc g mX12_renamed d (c) (k) [.ref a, .ref nm] h (rR (fun v h' => v = some (.ref a) ∧ h' = h)) := by
  refine Kc.of (ls := [some (.ref a), some (.ref nm)]) (by decide +kernel) (Nat.le_of_ble_eq_true rfl) rfl ?_
  refine ev_aload_n dX12_renamed_0 rfl ?_
  refine ev_areturn dX12_renamed_1 rfl (Or.inl ⟨_, rfl⟩) (Or.inr ⟨_, rfl⟩) ?_
  exact ⟨_, rfl, rfl, rfl⟩
end S2S

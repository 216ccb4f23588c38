/-! THE COMPONENT: renamed of layers and series; of trees (printed by gen) -/
section S3S
variable {g : GB} {M : MI} {d c k : Nat} {h : HM}
set_option maxRecDepth 100000 in
set_option maxHeartbeats 4000000 in
theorem k_rn16 {a pl v cap D nm : Nat} {mc : Int} {b : Bool} {f : Nat → Option Nat} {as : List Nat} {cs : List (List Nd)} {N : Nat → Int} {I : HM} {T : HM → Nat → List Nd → Prop} (hG : GKx g) (hSI : Sub I h) (hKC : KC g h) (hnm : h nm = some (.inl (0, (8, .inl (fun j => zI (N j)))))) (ha : h a = some (.inr (12, [vz (bI b), .ref pl]))) (hpl : h pl = some (.inr (29, [vz mc, .ref v, vz ((as.length : Nat) : Int)]))) (hv : h v = some (.inl (9, (cap, .inr (.inr (.inr (.inr (f)))))))) (hf : ∀ i : Nat, i < as.length → f i = as[i]?) (hcap : as.length ≤ cap) (hl : as.length < 100000) (hlc : as.length = cs.length) (h1l : 1 ≤ as.length) (hT : ∀ (J : HM) (r : Nat) (c : List Nd), T J r c → ∃ fs, J r = some (.inr (nCi (rootK c), fs))) (hTm : ∀ (J J2 : HM) (r : Nat) (c : List Nd), Sub J J2 → T J r c → T J2 r c) (hpart : ∀ (i q : Nat) (c : List Nd), as[i]? = some q → cs[i]? = some c → (∃ fs, I q = some (.inr (nCi (rootK c), fs))) ∧ RnK g I D (rootK c) q (rC c) (rK c) nm N (fun J r => T J r c)) (hd : D + 7 ≤ d ∧ 8 ≤ d) (hc : rnCs cs 0 + 1 ≤ c) (hk9 : rnKs cs 0 + 3 ≤ k) : Kc g mX16_renamed d (c) (k) [.ref a, .ref nm] h (rR (fun v h' => ∃ (r : Nat) (J : HM), v = some (.ref r) ∧ Gw I h J h' ∧ (∃ rs : List Nat, rs.length = cs.length ∧ SevAt J r b rs ∧ ∀ (j r : Nat) (c : List Nd), rs[j]? = some r → cs[j]? = some c → T J r c) ∧ Fr g h h' [])) := by
  refine Kc.of (ls := [some (.ref a), some (.ref nm), none, none, none, none]) (by decide +kernel) (Nat.le_of_ble_eq_true rfl) rfl ?_
  refine ev_newC (c' := rnCs cs 0) (k' := rnKs cs 0) [vz 0, .null, vz 0] dX16_renamed_0 cf_J26 q2263 q376 q152 rfl (by omega) (by omega) (fun q1 hp_2 e3 B4 Hq1_5 f6 => ?_)
  have ha_7 := (f6 _ (ne_no ha e3)).trans ha
  have z8 := ((Fr.refl (g := g) _ [])).fresh e3
  have F9 := ((Fr.refl (g := g) _ [])).alloc (Or.inl ⟨_, Hq1_5⟩) f6 e3
  refine ev_dup dX16_renamed_3 rfl ?_
  refine ev_callVR dX16_renamed_4 ci_X16_67 ce_J26_init Hq1_5 rfl rfl rfl (al_init hG Hq1_5 B4) (by omega) (by omega) (by omega) (Nat.le_of_ble_eq_true rfl) (fun v10 hp_10 P10 => ?_)
  obtain ⟨rfl, hn10, fr10⟩ := P10
  have ha_11 := fr10.keep ha_7 (by simp only [List.mem_cons, List.not_mem_nil, or_false, not_or]; exact (ne_no ha e3))
  have F12 := (F9).call fr10 (fun x hx => Or.inr (Or.inl (by rw [List.mem_singleton.mp hx]; exact z8)))
  refine ev_astore_n dX16_renamed_7 (by decide) rfl ?_
  dsimp only [List.set]
  refine ev_iconstZ dX16_renamed_8 ?_
  refine ev_istore_n dX16_renamed_9 (by decide) rfl ?_
  dsimp only [List.set]
  have Bq := B4
  have zq := z8
  have F0 := F12
  have K0 := al_new (hKC.fr F0).1.1 hn10 Bq
  have I0 := hSI.fr0 F0
  generalize hp_10 = h0 at K0 F0 I0 ⊢
  refine ev_forB as.length (rnCs cs) (rnKs cs) (fun i h1 => ∃ (rs : List Nat) (J : HM) (v1 cap1 : Nat), rs.length = i ∧ Gw I h J h1 ∧ ALh g h1 q1 v1 cap1 ((i : Nat) : Int) rs ∧ (∀ (j r : Nat) (c : List Nd), rs[j]? = some r → cs[j]? = some c → T J r c) ∧ J q1 = none ∧ (J v1 = none ∨ v1 < gB g) ∧ (v1 < gB g ∨ h v1 = none) ∧ Fr g h h1 []) (fun i => [some (.ref a), some (.ref nm), some (.ref q1), some (vz ((i : Nat) : Int)), none, none]) 0 (Nat.zero_le _) ⟨[], I, _, 0, rfl, (Gw.refl hSI).fr0 F0, K0, (fun j r c hj => by cases hj), hSI.none zq, Or.inr hKC.1.2, Or.inl hKC.1.2, F0⟩ (by omega) (by omega) ⟨rfl, rfl, rfl, rfl, trivial⟩ (fun i h1 _ hi hP1 hN => ?_) (fun h1 hP1 => ?_)
  · obtain ⟨rs, J, v1, cap1, hrl, G, AL1, hnd, hJ1, hJv, hv1, F1⟩ := hP1
    have ha1 := F1.keep ha (fun q => by cases q)
    have hpl1 := F1.keep hpl (fun q => by cases q)
    have hvv1 := F1.keep hv (fun q => by cases q)
    have hnm1 := F1.keep hnm (fun q => by cases q)
    obtain ⟨q, hq⟩ : ∃ q, as[i]? = some q := ⟨_, List.getElem?_eq_getElem hi⟩
    obtain ⟨cc, hcc⟩ : ∃ cc, cs[i]? = some cc := ⟨_, List.getElem?_eq_getElem (by omega)⟩
    obtain ⟨hkc, hk⟩ := hpart i q cc hq hcc
    have hC9 := rnCs_step hcc
    have hK9 := rnKs_step hcc
    refine ev_iload_n dX16_renamed_10 rfl ?_
    refine ev_aload_n dX16_renamed_11 rfl ?_
    refine ev_getf dX16_renamed_12 gf_X16_15_X16 ha1 rfl ?_
    refine ev_callVE dX16_renamed_15 cv_X16_19_J26 ce_J26_size hpl1 rfl rfl rfl (al_size hpl1) (by omega) (Nat.le_of_ble_eq_true rfl) ?_
    refine ev_icmp_geZ (tgt := 52) dX16_renamed_18 (by decide) (by omega) (by omega) (fun c18 => by omega) (fun c18 => ?_)
    refine ev_aload_n dX16_renamed_21 rfl ?_
    refine ev_getf dX16_renamed_22 gf_X16_15_X16 ha1 rfl ?_
    refine ev_iload_n dX16_renamed_25 rfl ?_
    refine ev_callVE dX16_renamed_26 cv_X16_25_J26 ce_J26_get hpl1 rfl rfl rfl (al_get hpl1 hvv1 (by omega) (by omega) (by rw [Int.toNat_natCast, hf i (by omega), hq])) (by omega) (Nat.le_of_ble_eq_true rfl) ?_
    refine ev_castN dX16_renamed_29 q908 (hkc.imp (fun fs e => G.2.1 _ _ (G.1 _ _ e))) ?_
    refine ev_astore dX16_renamed_32 (by decide) rfl ?_
    dsimp only [List.set]
    refine ev_aload_n dX16_renamed_34 rfl ?_
    refine ev_aload dX16_renamed_35 rfl ?_
    refine ev_aload_n dX16_renamed_37 rfl ?_
    refine ev_callNR dX16_renamed_38 (nv_X16_68 hG) fe_renamed (hkc.imp (fun fs e => G.2.1 _ _ (G.1 _ _ e))) rfl rfl (hk J h1 G.1 G.2.1 (hKC.fr F1) hnm1) (by omega) (by omega) (by omega) (Nat.le_of_ble_eq_true rfl) (fun vR h2 PR => ?_)
    obtain ⟨r, J2, rfl, GR, TR2, FR⟩ := PR
    have F2 := F1.call FR nil_in
    have G2 : Gw I h J2 h2 := G.trans F1 GR
    have hJ1b : J2 q1 = none := GR.nn (by rw [AL1.1]; exact fun q => by cases q) hJ1
    have hJvb : J2 v1 = none ∨ v1 < gB g := hJv.imp_left (fun e => GR.nn (by obtain ⟨f9, e9, -⟩ := AL1.2.2.1; rw [e9]; exact fun q => by cases q) e)
    have AL2 := AL1.fr FR (fun q => by cases q) (fun _ q => by cases q)
    have iso2 : isO h2 r := Exists.elim (hT _ _ _ TR2) (fun fs9 e9 => Or.inl ⟨_, G2.2.1 _ _ e9⟩)
    refine ev_callVR dX16_renamed_41 cv_X16_72_J26 ce_J26_add AL2.1 rfl rfl rfl (al_add hG (hKC.fr F2).1.1 AL2 (by omega) iso2) (by omega) (by omega) (by omega) (Nat.le_of_ble_eq_true rfl) (fun v9 h3 P9 => ?_)
    obtain ⟨rfl, v3, cap3, AL3, hv3, F3⟩ := P9
    refine ev_istore dX16_renamed_44 (by decide) rfl ?_
    dsimp only [List.set]
    refine ev_iincZ dX16_renamed_46 rfl (by decide) rfl ?_
    dsimp only [List.set]
    refine ev_goto (tgt := 10) dX16_renamed_49 (by decide) ?_
    refine hN _ _ _ _ (by omega) (by omega) (by repeat' first | exact rfl | exact trivial | exact vz_eq (by omega) | refine And.intro ?_ ?_) ⟨rs ++ [r], J2, v3, cap3, by rw [List.length_append, hrl]; rfl, G2.fr F3 (fun x hx => ?_), (by rw [Int.natCast_succ]; exact AL3), fun j r2 c2 hj hc2 => ?_, hJ1b, ?_, ?_, F2.call F3 (fun x hx => ?_)⟩
    · rcases List.mem_cons.mp hx with e | hx
      · rw [e]; exact Or.inl hJ1b
      · rw [List.mem_singleton.mp hx]; exact hJvb
    · by_cases e : j < rs.length
      · rw [List.getElem?_append_left e] at hj
        exact hTm _ _ _ _ GR.1 (hnd j r2 c2 hj hc2)
      · have e2 : j = rs.length := by have := (List.getElem?_eq_some_iff.mp hj).1; rw [List.length_append, List.length_singleton] at this; omega
        subst e2
        rw [List.getElem?_append_right (Nat.le_refl _), Nat.sub_self] at hj
        rw [hrl, hcc] at hc2
        cases hj; cases hc2
        exact TR2
    · rcases hv3 with e | e
      · rw [e]; exact hJvb
      · exact Or.inl (G2.2.1.none e)
    · rcases hv3 with e | e
      · rw [e]; exact hv1
      · exact Or.inr (F2.fresh e)
    · rcases List.mem_cons.mp hx with e | hx
      · rw [e]; exact Or.inr (Or.inl zq)
      · rw [List.mem_singleton.mp hx]; rcases hv1 with e | e
        · exact Or.inr (Or.inr e)
        · exact Or.inr (Or.inl e)
  · obtain ⟨rs, J, v1, cap1, hrl, G, AL1, hnd, hJ1, hJv, hv1, F1⟩ := hP1
    have ha1 := F1.keep ha (fun q => by cases q)
    have hpl1 := F1.keep hpl (fun q => by cases q)
    have hvv1 := F1.keep hv (fun q => by cases q)
    have hnm1 := F1.keep hnm (fun q => by cases q)
    have hC9 := rnCs_n cs
    have hK9 := rnKs_n cs
    rw [hlc, hC9, hK9]
    rw [← hlc]
    obtain ⟨k1, k2, ⟨f1, k3, k4⟩, k5, k6, k7, k8⟩ := id AL1
    have hv1z : h v1 = none := hv1.resolve_left (fun e => by rcases k8 with q | q <;> omega)
    refine ev_iload_n dX16_renamed_10 rfl ?_
    refine ev_aload_n dX16_renamed_11 rfl ?_
    refine ev_getf dX16_renamed_12 gf_X16_15_X16 ha1 rfl ?_
    refine ev_callVE dX16_renamed_15 cv_X16_19_J26 ce_J26_size hpl1 rfl rfl rfl (al_size hpl1) (by omega) (Nat.le_of_ble_eq_true rfl) ?_
    refine ev_icmp_geZ (tgt := 52) dX16_renamed_18 (by decide) (by omega) (by omega) (fun c18 => ?_) (fun c18 => by omega)
    refine ev_newC (c' := 0) (k' := 0) [vz 0, .null] dX16_renamed_52 cf_X16 q1313 q1955 q166 rfl (by omega) (by omega) (fun qt1 hp_t2 et3 Bt4 Hqt1_t5 ft6 => ?_)
    have ha1_t7 := (ft6 _ (ne_no ha1 et3)).trans ha1
    have hpl1_t8 := (ft6 _ (ne_no hpl1 et3)).trans hpl1
    have k1_t9 := (ft6 _ (ne_no k1 et3)).trans k1
    have k3_t10 := (ft6 _ (ne_no k3 et3)).trans k3
    have zt11 := ((Fr.refl (g := g) _ [])).fresh et3
    have Ft12 := ((Fr.refl (g := g) _ [])).alloc (Or.inl ⟨_, Hqt1_t5⟩) ft6 et3
    refine ev_dup dX16_renamed_55 rfl ?_
    refine ev_aload_n dX16_renamed_56 rfl ?_
    refine ev_getf dX16_renamed_57 gf_X16_9_X16 ha1_t7 rfl ?_
    refine ev_aload_n dX16_renamed_60 rfl ?_
    refine ev_callVR dX16_renamed_61 ci_X16_29 ce_X16_init Hqt1_t5 rfl rfl rfl (k_i16 Hqt1_t5 Bt4) (by omega) (by omega) (by omega) (Nat.le_of_ble_eq_true rfl) (fun vt13 hp_t13 Pt13 => ?_)
    obtain ⟨rfl, hnt13, frt13⟩ := Pt13
    have ha1_t14 := frt13.keep ha1_t7 (by simp only [List.mem_cons, List.not_mem_nil, or_false, not_or]; exact (ne_no ha1 et3))
    have hpl1_t15 := frt13.keep hpl1_t8 (by simp only [List.mem_cons, List.not_mem_nil, or_false, not_or]; exact (ne_no hpl1 et3))
    have k1_t16 := frt13.keep k1_t9 (by simp only [List.mem_cons, List.not_mem_nil, or_false, not_or]; exact (ne_no k1 et3))
    have k3_t17 := frt13.keep k3_t10 (by simp only [List.mem_cons, List.not_mem_nil, or_false, not_or]; exact (ne_no k3 et3))
    have Ft18 := (Ft12).call frt13 (fun x hx => Or.inr (Or.inl (by rw [List.mem_singleton.mp hx]; exact zt11)))
    refine ev_areturn dX16_renamed_64 rfl (Or.inl ⟨_, rfl⟩) (Or.inr ⟨_, rfl⟩) ?_
    have G0 := G.fr0 Ft18
    have G1 := G0.add hSI k1_t16 zq
    have sA := G0.subadd k1_t16
    have G2 := G1.add hSI k3_t17 hv1z (AL1.cap (by omega))
    have sB := G1.subadd k3_t17
    have G3 := G2.add hSI hnt13 (F1.fresh zt11)
    have sC := G2.subadd hnt13
    refine ⟨_, rfl, qt1, _, rfl, G3, ⟨rs, hrl, ⟨q1, v1, cap1, _, f1, hs_same _ _ _, sC _ _ (sB _ _ (hs_same _ _ _)), sC _ _ (hs_same _ _ _), k4, k6⟩, fun j r2 c2 h1 h2 => hTm _ _ _ _ ((sA.trans sB).trans sC) (hnd j r2 c2 h1 h2)⟩, F1.call Ft18 nil_in⟩
theorem offN_ex {x y : Nat} (nd : Nd) : offN (exNd x y nd) = offN nd := by unfold offN; rw [exNd_1, exNd_2]
theorem SevAt.nd {J : HM} {r : Nat} {nd : Nd} {rs : List Nat} (H : SevAt J r (decide (nd.1 = 6)) rs) (h6 : 6 ≤ nd.1) : ndC J r nd rs := by
  obtain ⟨pl, v, cap, mc, f, h1, h2, h3, h4, h5⟩ := H
  rw [bI_dec] at h1
  exact ⟨fun q => by omega, fun q => by omega, fun q => by omega, fun q => by omega, fun q => by omega, fun _ => ⟨pl, v, cap, mc, f, h1, h2, h3, h4, h5⟩⟩
/-- a tree is renamed -/
theorem n_renamed (hG : GKx g) {x y nm : Nat} {N : Nat → Int} (hNm : ∀ e : Nat, e < 8 → N e = ((exN x y e : Nat) : Int)) : ∀ (n a : Nat) (l : List Nd) (I : HM), NodeAt I n a l → l.length < 100000 → (∀ nd ∈ l, ndOk2 nd) → RnK g I (8 * n) (rootK l) a (rC l) (rK l) nm N (fun J r => NodeAt J n r (exL x y l)) := by
  intro n
  induction n with
  | zero => intro a l I H; exact H.elim
  | succ n ih =>
    intro a l I H hl hok I' h0 hII hIh hKC hnm
    replace H := H.sub hII
    obtain ⟨nd, cs, as, rfl, e2, e3, e4, e5, e6⟩ := H
    have hcl : cs.length ≤ cs.flatten.length := flat_len (fun c hc => by
      obtain ⟨i, hi⟩ := List.getElem?_of_mem hc
      have hl2 := (List.getElem?_eq_some_iff.mp hi).1
      exact (e6 i _ c hi (List.getElem?_eq_getElem (by omega : i < as.length))).tree.ne |> List.length_pos_iff.mpr)
    have hok2 : ∀ c ∈ cs, ∀ nd ∈ c, ndOk2 nd := fun c hc x hx => hok x (List.mem_cons_of_mem _ (List.mem_flatten.mpr ⟨c, hc, hx⟩))
    have hlc : ∀ c ∈ cs, c.length < 100000 := fun c hc => by have := flat_mem hc; simp only [List.length_cons] at hl; omega
    have hll : cs.length < 100000 := by simp only [List.length_cons] at hl; omega
    have ho := hok nd List.mem_cons_self
    have hkid : ∀ (i q : Nat) (c : List Nd), cs[i]? = some c → as[i]? = some q → (∃ fs, I' q = some (.inr (nCi (rootK c), fs))) ∧ RnK g I' (8 * n) (rootK c) q (rC c) (rK c) nm N (fun J r => NodeAt J n r (exL x y c)) := fun i q c hc hq =>
      ⟨(e6 i q c hc hq).cls, ih q c I' (e6 i q c hc hq) (hlc c (List.mem_of_getElem? hc)) (hok2 c (List.mem_of_getElem? hc))⟩
    have er : exL x y (nd :: cs.flatten) = exNd x y nd :: (cs.map (exL x y)).flatten := by unfold exL; rw [List.map_cons, List.map_flatten]
    have mk : ∀ (J : HM) (r : Nat) (rs : List Nat), rs.length = cs.length → ndC J r (exNd x y nd) rs → (∀ (i q : Nat) (c : List Nd), cs[i]? = some c → rs[i]? = some q → NodeAt J n q (exL x y c)) → NodeAt J (n + 1) r (exL x y (nd :: cs.flatten)) := fun J r rs f1 f2 f3 =>
      ⟨exNd x y nd, cs.map (exL x y), rs, er, by rw [exNd_3, e2, List.length_map], by rw [exNd_1, e3]; simp, by rw [f1, List.length_map], f2, fun i q c hc hq => by
        rw [List.getElem?_map] at hc
        cases hci : cs[i]? with
        | none => rw [hci] at hc; cases hc
        | some c0 => rw [hci] at hc; cases hc; exact f3 i q c0 hci hq⟩
    have one : 3 ≤ nd.1 → nd.1 ≤ 5 → ∃ p c, as = [p] ∧ cs = [c] := fun q1 q2 => by
      have hl1 : cs.length = 1 := by rw [← e2]; exact ho.2.1 q1 q2
      obtain ⟨c, hc⟩ := List.length_eq_one_iff.mp hl1
      obtain ⟨p, hp⟩ := List.length_eq_one_iff.mp (e4.trans hl1)
      exact ⟨p, c, hp, hc⟩
    have hrC : rC (nd :: cs.flatten) = rnC nd + rC cs.flatten := rfl
    have hrK : rK (nd :: cs.flatten) = rnK nd + rK cs.flatten := rfl
    rw [hrC, hrK]
    show Kc g (fam_renamed nd.1) _ _ _ _ h0 _
    by_cases h2 : nd.1 ≤ 2
    · have hc0 := e3.mp h2
      by_cases q2 : nd.1 = 2
      · have ef : fam_renamed nd.1 = mX12_renamed := by rw [q2]; rfl
        rw [ef]
        refine (k_rn12 (N := N) (I := I') hG hIh hKC hnm).mono (fun r h' q => ?_)
        obtain ⟨v, e, rfl, rfl⟩ := q
        have he : exNd x y nd = nd := by unfold exNd; rw [if_neg (by omega)]
        refine ⟨_, e, a, I', rfl, Gw.refl hIh, mk I' a as e4 (by rw [he]; exact e5) (fun i q c hc hq => by rw [hc0] at hc; simp at hc), Fr.refl _ _⟩
      · have h1 : nd.1 ≤ 1 := by omega
        have ef : fam_renamed nd.1 = mX13_renamed := by
          obtain ⟨k, rr⟩ := nd
          match k, h2, q2 with
          | 0, _, _ => rfl
          | 1, _, _ => rfl
          | 2, _, q => exact absurd rfl q
        rw [ef]
        obtain ⟨da, st, sv, D, has, f1, f2, f3, f4, f5, f6⟩ := e5.1 h1
        have hk1 := ho.1.2.2.2 h1
        refine ((k_rn13 (c := rnC nd + rC cs.flatten) (d := 8 * (n + 1)) (k := rnK nd + rK cs.flatten) hG hIh hKC hnm (hIh _ _ f1) (hIh _ _ f2) f3 (mem_lt hk1.2.2.1) hNm f6 (by omega) (by unfold rnC; omega) (by unfold rnK; omega)).mono (fun r h' q => ?_))
        obtain ⟨v, e, r0, J, rfl, G, ⟨da', A, g1, g2, g3⟩, F⟩ := q
        refine ⟨_, e, r0, J, rfl, G, mk J r0 [] (by rw [hc0]; rfl) ⟨fun _ => ⟨da', st, sv, A, rfl, by rw [offN_ex]; exact g1, by rw [exNd_len]; exact g2, fun j u hu => ?_, by rw [exNd_5]; exact f4.sub G.1, by rw [exNd_1, exNd_2]; exact f5, by rw [exNd_len]; exact f6⟩, fun q => ?_, fun q => ?_, fun q => ?_, fun q => ?_, fun q => ?_⟩ (fun i q c hc hq => by rw [hc0] at hc; simp at hc), F⟩
        · unfold exNd at hu
          rw [if_pos h1] at hu
          simp only [List.getElem?_map] at hu
          cases hd : nd.2.2.2.1[j]? with
          | none => rw [hd] at hu; cases hu
          | some u0 => rw [hd] at hu; cases hu; exact g3 j u0 hd
        all_goals (rw [exNd_1] at q; omega)
    · by_cases h5 : nd.1 ≤ 5
      · obtain ⟨p, c, rfl, rfl⟩ := one (by omega) h5
        obtain ⟨hkc, hk⟩ := hkid 0 p c rfl rfl
        have hn1 : nd.2.2.1 = 1 := e2
        have hd9 : exNd x y nd = nd := by unfold exNd; rw [if_neg (by omega)]
        have hfl : [c].flatten = c := List.flatten_singleton
        rw [hfl] at mk ⊢
        have h3 : rnC nd = 3 := by unfold rnC; omega
        have h4 : rnK nd = 15 + nd.2.2.2.1.length := by unfold rnK; rw [hn1]; omega
        by_cases q3 : nd.1 = 3
        · have ef : fam_renamed nd.1 = mX10_renamed := by rw [q3]; rfl
          rw [ef]
          obtain ⟨p', hp', f1⟩ := e5.2.2.1 q3
          cases hp'
          refine (k_rn10 hG hIh hKC hnm (hIh _ _ f1) hkc hk (by omega) (by omega) (by omega)).mono (fun r h' q => ?_)
          obtain ⟨v, e, r1, J, rfl, G, ⟨r0, g1, J0, g2, g3⟩, F⟩ := q
          exact ⟨_, e, r1, J, rfl, G, mk J r1 [r0] rfl (by rw [hd9]; exact ⟨fun q => by omega, fun q => by omega, fun _ => ⟨r0, rfl, g1⟩, fun q => by omega, fun q => by omega, fun q => by omega⟩) (fun i q c2 hc hq => by
            cases i with
            | zero => cases hc; cases hq; exact g3.sub g2
            | succ i => simp at hc), F⟩
        · by_cases q4 : nd.1 = 4
          · have ef : fam_renamed nd.1 = mX14_renamed := by rw [q4]; rfl
            rw [ef]
            obtain ⟨p', hp', f1⟩ := e5.2.2.2.1 q4
            cases hp'
            refine (k_rn14 hG hIh hKC hnm (hIh _ _ f1) hkc hk (by omega) (by omega) (by omega)).mono (fun r h' q => ?_)
            obtain ⟨v, e, r1, J, rfl, G, ⟨r0, g1, J0, g2, g3⟩, F⟩ := q
            exact ⟨_, e, r1, J, rfl, G, mk J r1 [r0] rfl (by rw [hd9]; exact ⟨fun q => by omega, fun q => by omega, fun q => by omega, fun _ => ⟨r0, rfl, g1⟩, fun q => by omega, fun q => by omega⟩) (fun i q c2 hc hq => by
              cases i with
              | zero => cases hc; cases hq; exact g3.sub g2
              | succ i => simp at hc), F⟩
          · have q5 : nd.1 = 5 := by omega
            have ef : fam_renamed nd.1 = mX15_renamed := by rw [q5]; rfl
            rw [ef]
            obtain ⟨p', hp', f1⟩ := e5.2.2.2.2.1 q5
            cases hp'
            refine (k_rn15 hG hIh hKC hnm (hIh _ _ f1) hkc hk (by omega) (by omega) (by omega)).mono (fun r h' q => ?_)
            obtain ⟨v, e, r1, J, rfl, G, ⟨r0, g1, J0, g2, g3⟩, F⟩ := q
            exact ⟨_, e, r1, J, rfl, G, mk J r1 [r0] rfl (by rw [hd9]; exact ⟨fun q => by omega, fun q => by omega, fun q => by omega, fun q => by omega, fun _ => ⟨r0, rfl, g1⟩, fun q => by omega⟩) (fun i q c2 hc hq => by
              cases i with
              | zero => cases hc; cases hq; exact g3.sub g2
              | succ i => simp at hc), F⟩
      · have ef : fam_renamed nd.1 = mX16_renamed := by
          obtain ⟨k, rr⟩ := nd
          match k, h5 with
          | 0, h | 1, h | 2, h | 3, h | 4, h | 5, h => exact absurd (by simp) h
          | k + 6, _ => rfl
        rw [ef]
        have hd9 : exNd x y nd = nd := by unfold exNd; rw [if_neg (by omega)]
        obtain ⟨pl, v, cap, mc, f, f1, f2, f3, f4, f5⟩ := e5.2.2.2.2.2 (by omega)
        rw [← bI_dec] at f1
        have h2l := ho.2.2.1 (by omega)
        refine (k_rn16 (T := fun J r c => NodeAt J n r (exL x y c)) hG hIh hKC hnm (hIh _ _ f1) (hIh _ _ f2) (hIh _ _ f3) f4 f5 (by omega) e4 (by omega) (fun J r c H => by
          have := H.cls
          have e9 : rootK (exL x y c) = rootK c := by
            cases c with
            | nil => rfl
            | cons z t => exact exNd_1 z
          rw [e9] at this; exact this) (fun J J2 r c hs9 H => H.sub hs9) (fun i q c hq hc => hkid i q c hc hq) (by omega) (by rw [rnCs_0]; unfold rnC; omega) (by rw [rnKs_0]; unfold rnK; rw [e2]; omega)).mono (fun r h' q => ?_)
        obtain ⟨v, e, r1, J, rfl, G, ⟨rs, g1, g2, g3⟩, F⟩ := q
        exact ⟨_, e, r1, J, rfl, G, mk J r1 rs g1 (by rw [hd9]; exact g2.nd (by omega)) (fun i q c hc hq => g3 i q c hq hc), F⟩
end S3S

/-! THE COMPONENT: the class, isReplayed (printed by gen) -/
section Y6S
variable {g : GB} {M : MI} {d c k : Nat} {h : HM}
theorem LLh.norm {a : Nat} {mc : Int} {L : List (Nat × Nat)} (H : LLh g h a mc L) : ∃ m : Int, inR m ∧ LLh g h a m L := by
  obtain ⟨m, hm, e⟩ := zI_of (zI mc)
  refine ⟨m, hm, ?_, H.2⟩
  rw [H.1]
  have e2 : vz mc = vz m := congrArg Value.int e
  unfold llC
  rw [e2]
variable {N : Nat} {B : Nat → Prop} {o : Nat} {σ : Sp}
theorem cmK_le {I : HM} {x : Nat} {C : Cm} (K : CmC g I x C) (hok : cmOk C) : cmK C ≤ 908 := by
  unfold cmK
  split
  · rename_i h1
    obtain ⟨q1, q2, q3⟩ := hok h1
    rcases K with ⟨e, -⟩ | ⟨-, nu, p, -, hN⟩ | ⟨e, -⟩
    · omega
    · have := (len_ok 81 _ hN.tree q2 _ q3).2
      omega
    · omega
  · omega
theorem rpl_take {c : Nat × Nat} {cs : List Cm} {i : Nat} {C : Cm} (h : cs[i]? = some C) : rpl c (cs.take (i + 1)) = cmD C (rpl c (cs.take i)) := by
  rw [List.take_succ, h]
  exact rpl_snoc c (cs.take i) C
set_option maxRecDepth 100000 in
set_option maxHeartbeats 4000000 in
theorem kx_isReplayed (hG : GKx g) (K0 : KC g h) (W : WX g N B h o σ) (hO : spOk σ) (hN9 : N ≤ 30) (hL : dnLn σ.1) (hT : cpO σ.1.2.2.2 ≤ 20000 ∧ (txO σ.1.2.2.2).length ≤ 20000) (hd : 670 ≤ d) (hc : 41000 ≤ c) (hk : 152000 ≤ k) : Kc g mX1_isReplayed d c k [.ref o] h (XQ g N B h o (fun m : Int => "java/lang/IllegalStateException") (((0, 1, σ) : Rs))) := by
  refine Kc.of (ls := [some (.ref o), none, none, none, none]) (by decide +kernel) (Nat.le_of_ble_eq_true rfl) rfl ?_
  obtain ⟨I, own, ⟨pid, a, st, fo⟩, us, cl, ud, uv, uh, ib, iv, ic, os, ow, sdv, scv, lev, cs, HO, WR⟩ := id W
  have HO : h o = some (.inr (0, [.ref a, .ref cl, .ref ud, sdv, scv, .ref ib, .ref os, lev, vz σ.2.2.2.2.2.1, vz σ.2.2.2.2.1])) := HO
  obtain ⟨⟨hBo, ho1, hIo⟩, ⟨hSI, hCI, hBB⟩, KD, KCs, KU, KN, KS, KI, KOu, KE⟩ := id WR
  have H : DnC g I h a st fo σ.1 := KD.1
  have dO := hO.1
  obtain ⟨A, Bf, pv, sv, KDA, hA, hB9, hV⟩ := id H
  obtain ⟨k1, k2, k3, k4, k5, k6, k7, k8⟩ := id KDA
  obtain ⟨⟨mc8, L, kL8, hL0, hL1, hL2, d3⟩, hcN⟩ := id KCs
  obtain ⟨mc, him, kL⟩ := kL8.norm
  have hrs : ∀ e : Nat, e < 8 → inR (σ.1.2.1 e) := fun e he => by have := st_lt dO he; omega
  have hrf : ∀ f e : Nat, f < 4 → e < 8 → inR (σ.1.2.2.1 f e) := fun f e hf he => by have := fo_lt dO hf he; omega
  have hl2 : ∀ l, σ.1.2.2.2 = some l → l.length < 1000000 ∧ ∀ nd ∈ l, ndOk2 nd := fun l2 e => ⟨by have := hL l2 e; omega, (dO.2.2.2.2.2.2 l2 e).1.2⟩
  refine ev_newC (c' := 40990) (k' := 151900) [vz 0, vz 0, .null, .null, .null, .null] dX1_isReplayed_0 cf_X2 q185 q186 q119 rfl (by omega) (by omega) (fun q1 hp_2 e3 B4 Hq1_5 f6 => ?_)
  have HO_7 := (f6 _ (ne_no HO e3)).trans HO
  have k1_8 := (f6 _ (ne_no k1 e3)).trans k1
  have z9 := ((Fr.refl (g := g) _ [])).fresh e3
  have F10 := ((Fr.refl (g := g) _ [])).alloc (Or.inl ⟨_, Hq1_5⟩) f6 e3
  refine ev_dup dX1_isReplayed_3 rfl ?_
  refine ev_aload_n dX1_isReplayed_4 rfl ?_
  refine ev_getf dX1_isReplayed_5 gf_X1_37_X1 HO_7 rfl ?_
  refine ev_getf dX1_isReplayed_8 gf_X1_351_X2 k1_8 rfl ?_
  refine ev_aload_n dX1_isReplayed_11 rfl ?_
  refine ev_getf dX1_isReplayed_12 gf_X1_37_X1 HO_7 rfl ?_
  refine ev_getf dX1_isReplayed_15 gf_X1_381_X2 k1_8 rfl ?_
  refine ev_callVR dX1_isReplayed_18 ci_X1_34 ce_X2_init Hq1_5 rfl rfl rfl (k_initX2 (co := σ.1.1.1) (ro := σ.1.1.2) hG Hq1_5 B4) (by omega) (by omega) (by omega) (Nat.le_of_ble_eq_true rfl) (fun v11 h2 P11 => ?_)
  obtain ⟨rfl, st2, fo2, KDa, F2, hst2, hfo2⟩ := P11
  have hz : ∀ x ∈ dnS q1 st2 fo2, h x = none := dnS_none z9 ((F10).fresh hst2) (fun j hj => (F10).fresh (hfo2 j hj))
  have KD2 := KDa I
  have F2b := (F10).call F2 (fun x hx => Or.inr (Or.inl (by rw [List.mem_singleton.mp hx]; exact z9)))
  have HO2 := F2b.keep HO (fun q => by cases q)
  have kL2 := kL.fr F2b (fun x hx => by cases hx)
  refine ev_astore_n dX1_isReplayed_21 (by decide) rfl ?_
  dsimp only [List.set]
  refine ev_aload_n dX1_isReplayed_22 rfl ?_
  refine ev_getf dX1_isReplayed_23 gf_X1_44_X1 HO2 rfl ?_
  refine ev_callVR dX1_isReplayed_26 cv_X1_384_J3 ce_J2_iterator kL2.1 rfl rfl rfl (ll_iter kL2 (by omega)) (by omega) (by omega) (by omega) (Nat.le_of_ble_eq_true rfl) (fun v12 h3 P12 => ?_)
  obtain ⟨it, rfl, hit0, hitB, hit, F3⟩ := P12
  refine ev_astore_n dX1_isReplayed_29 (by decide) rfl ?_
  dsimp only [List.set]
  have KD3 := KD2.fr F3 (fun x hx => by cases hx)
  have F03 := F2b.call F3 nil_in
  have hitz : h it = none := F2b.fresh hit0
  have hitq : it ∉ dnS q1 st2 fo2 := fun e => KD2.nz e hit0
  have hIit : I it = none := by
    cases e : I it with
    | none => rfl
    | some y => have := hSI _ _ e; rw [hitz] at this; cases this
  have hIq : ∀ x ∈ dnS q1 st2 fo2, I x = none := fun x hx => by
    cases e : I x with
    | none => rfl
    | some y => have := hSI _ _ e; rw [hz x hx] at this; cases this
  have hSz : ∀ x ∈ it :: dnS q1 st2 fo2, h x = none := fun x hx => by
    rcases List.mem_cons.mp hx with e | e
    · rw [e]; exact hitz
    · exact hz x e
  refine ev_forB (st := []) L.length (fun i => 12 * (L.length - i) + 40008) (fun i => 908 * (L.length - i) + 120016) (fun i hx => ∃ Ii : HM, Gw I h3 Ii hx ∧ DnC g Ii hx q1 st2 fo2 (rpl σ.1.1 (cs.take i)) ∧ (∃ lr9, hx it = some (.inr (34, [lr9, va_rf ((L[i]?).map Prod.fst), vz ((i : Nat) : Int), vz mc, .ref cl]))) ∧ Fr g h3 hx (it :: dnS q1 st2 fo2)) (fun i => [some (.ref o), some (.ref q1), some (.ref it), none, none]) 0 (Nat.zero_le _) ⟨I, Gw.refl (hSI.fr0 F03), KD3, ⟨_, hit⟩, Fr.refl _ _⟩ (by show 12 * (L.length - 0) + 40008 ≤ _; omega) (by show 908 * (L.length - 0) + 120016 ≤ _; omega) ⟨rfl, rfl, rfl, trivial⟩ (fun i hx _ hi hP hK => ?_) (fun hx hP => ?_)
  · obtain ⟨Ii, Gx, KDx, ⟨lr9, hitx⟩, Fx⟩ := hP
    have Fhx : Fr g h hx [] := F03.call Fx (fun x hx => Or.inr (Or.inl (hSz x hx)))
    have HOx := Fhx.keep HO (fun q => by cases q)
    have kLx := kL.fr Fhx (fun x hx => by cases hx)
    obtain ⟨⟨p9, x9⟩, hLi⟩ : ∃ y, L[i]? = some y := ⟨_, List.getElem?_eq_getElem hi⟩
    obtain ⟨C9, hC9⟩ : ∃ C, cs[i]? = some C := ⟨_, List.getElem?_eq_getElem (by omega)⟩
    have hck := cmK_le (hL2 i p9 x9 C9 hLi hC9).1 (hL2 i p9 x9 C9 hLi hC9).2
    refine ev_aload_n dX1_isReplayed_30 rfl ?_
    refine ev_callVE dX1_isReplayed_31 (cf_X1_256_J34 hG) ce_J34_hasNext hitx rfl rfl rfl (li_hasNext hitx kLx.1 ⟨by omega, by omega⟩) (by omega) (Nat.le_of_ble_eq_true rfl) ?_
    refine ev_if_eqZ (tgt := 59) dX1_isReplayed_36 (by decide) (by split <;> omega) (fun c36 => by rw [if_pos (by omega)] at c36; exact absurd c36 (by decide)) (fun c36 => ?_)
    refine ev_aload_n dX1_isReplayed_39 rfl ?_
    refine ev_callVR dX1_isReplayed_40 (cf_X1_262_J34 hG) ce_J34_next hitx rfl rfl rfl (li_next kLx hitx hitB him (by omega) hLi) (by omega) (by omega) (by omega) (Nat.le_of_ble_eq_true rfl) (fun v1 h4 P1 => ?_)
    obtain ⟨rfl, hit4, F4⟩ := P1
    have hI4 := Gx.2.1.fr F4 (fun x hx => Or.inl (by rw [List.mem_singleton.mp hx]; exact Gx.nn (by rw [hit]; exact fun q => by cases q) hIit))
    obtain ⟨fs9, hcx⟩ := (hL2 i p9 x9 C9 hLi hC9).1.cls
    have hc4 := hI4 _ _ (Gx.1 _ _ hcx)
    have KD4 := KDx.fr F4 (fun x hx e => hitq (by rw [← List.mem_singleton.mp hx]; exact e))
    refine ev_castY dX1_isReplayed_45 q1088 hc4 rfl (Or.inl rfl) ?_
    refine ev_astore_n dX1_isReplayed_48 (by decide) rfl ?_
    dsimp only [List.set]
    refine ev_aload_n dX1_isReplayed_49 rfl ?_
    refine ev_aload_n dX1_isReplayed_50 rfl ?_
    refine ev_callVR dX1_isReplayed_51 cv_X1_88_X4 ce_X4_carryOut hc4 rfl rfl rfl (k_carry hG hI4 KD4 (fun x hx => Gx.nn (KD3.nz hx) (hIq x hx)) ((hL2 i p9 x9 C9 hLi hC9).1.sub Gx.1) (hL2 i p9 x9 C9 hLi hC9).2 (Nat.le_refl 497) (Nat.le_refl 12) (Nat.le_refl _)) (by omega) (by omega) (by omega) (Nat.le_of_ble_eq_true rfl) (fun v2 h5 P2 => ?_)
    obtain ⟨J5, rfl, G5, KD5, F5⟩ := P2
    refine ev_istore dX1_isReplayed_54 (by decide) rfl ?_
    dsimp only [List.set]
    refine ev_goto (tgt := 30) dX1_isReplayed_56 (by decide) ?_
    refine hK _ _ _ _ (by show _ ≤ _; omega) (by show _ ≤ _; omega) ⟨rfl, rfl, rfl, trivial⟩ ⟨J5, (Gx.fr F4 (fun x hx => Or.inl (by rw [List.mem_singleton.mp hx]; exact Gx.nn (by rw [hit]; exact fun q => by cases q) hIit))).trans (Fx.call F4 (fun x hx => Or.inl (by rw [List.mem_singleton.mp hx]; exact List.mem_cons_self))) G5, by rw [rpl_take hC9]; exact KD5, ⟨_, F5.keep hit4 hitq⟩, (Fx.call F4 (fun x hx => Or.inl (by rw [List.mem_singleton.mp hx]; exact List.mem_cons_self))).call F5 (fun x hx => Or.inl (List.mem_cons_of_mem _ hx))⟩
  · obtain ⟨Ii, Gx, KDx, ⟨lr9, hitx⟩, Fx⟩ := hP
    have Fhx : Fr g h hx [] := F03.call Fx (fun x hx => Or.inr (Or.inl (hSz x hx)))
    have HOx := Fhx.keep HO (fun q => by cases q)
    have kLx := kL.fr Fhx (fun x hx => by cases hx)
    have KDl : DnC g Ii hx q1 st2 fo2 σ.1 := by
      rw [hL1, List.take_length, d3] at KDx; exact KDx
    obtain ⟨fsq, hcq⟩ := KDl.cls
    refine ev_aload_n dX1_isReplayed_30 rfl ?_
    refine ev_callVE dX1_isReplayed_31 (cf_X1_256_J34 hG) ce_J34_hasNext hitx rfl rfl rfl (li_hasNext hitx kLx.1 ⟨by omega, by omega⟩) (by omega) (Nat.le_of_ble_eq_true rfl) ?_
    refine ev_if_eqZ (tgt := 59) dX1_isReplayed_36 (by decide) (by split <;> omega) (fun c36 => ?_) (fun c36 => by rw [if_neg (by omega)] at c36; exact absurd rfl c36)
    refine ev_aload_n dX1_isReplayed_59 rfl ?_
    refine ev_aload_n dX1_isReplayed_60 rfl ?_
    refine ev_getf dX1_isReplayed_61 gf_X1_37_X1 HOx rfl ?_
    refine ev_callVR dX1_isReplayed_64 cv_X1_385_X2 ce_X2_isLike hcq rfl rfl rfl (k_isLike hG Gx.2.1 (K0.fr Fhx) KDl (H.fr Fhx (fun x hx => by cases hx) |>.sub Gx.1) rfl (fun _ _ => rfl) (fun _ _ _ _ => rfl) hrs hrf (by omega) (d := 660) (c := 40008) (k := 120016) (by omega) (by omega) (by omega) hl2) (by omega) (by omega) (by omega) (Nat.le_of_ble_eq_true rfl) (fun v1 h6 P1 => ?_)
    obtain ⟨rfl, F6⟩ := P1
    refine ev_zreturn dX1_isReplayed_67 rfl rfl ?_
    exact WX.newQ W (Fhx.call F6 nil_in)
end Y6S

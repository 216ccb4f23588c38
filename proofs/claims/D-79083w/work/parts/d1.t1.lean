/-! THE COMPONENT: text, isLike of a dance (printed by gen) -/
section T1S
variable {g : GB} {M : MI} {d c k : Nat} {h : HM}
/-- the text of a dance's piece -/
def txO (x : Option (List Nd)) : List Nat := match x with
  | none => []
  | some l => (chV l).flatten
/-- the room that its builder takes -/
def cpO (x : Option (List Nd)) : Nat := match x with
  | none => 16
  | some l => capF (chV l) 16 0
theorem cpO_16 (x : Option (List Nd)) : 16 ≤ cpO x := by
  cases x with
  | none => exact Nat.le_refl _
  | some l => exact capF_le _ _ _
theorem cpO_b (x : Option (List Nd)) : cpO x ≤ max 16 (2 * (txO x).length) := by
  cases x with
  | none => exact Nat.le_max_left _ _
  | some l => have := capF_b (chV l) 16 0; rw [Nat.zero_add] at this; exact this
set_option maxRecDepth 100000 in
set_option maxHeartbeats 4000000 in
theorem k_textX2 {I : HM} {a st fo : Nat} {D : Dn} (hG : GKx g) (hSI : Sub I h) (hKC : KC g h) (H : DnC g I h a st fo D) (hB : cpO D.2.2.2 < 400000) (hd : 649 ≤ d) (hc : cpO D.2.2.2 + 4 ≤ c) (hk : 2 * cpO D.2.2.2 + (txO D.2.2.2).length + 8 ≤ k) (hl : ∀ l, D.2.2.2 = some l → l.length < 1000000 ∧ ∀ nd ∈ l, ndOk2 nd) : Kc g mX2_text d (c) (k) [.ref a] h (rR (fun v h' => ∃ r w : Nat, v = some (.ref r) ∧ h r = none ∧ h w = none ∧ gB g ≤ r ∧ gB g ≤ w ∧ STh h' r w (txO D.2.2.2) ∧ Fr g h h' [])) := by
  refine Kc.of (ls := [some (.ref a), none]) (by decide +kernel) (Nat.le_of_ble_eq_true rfl) rfl ?_
  obtain ⟨A, B, pv, sv, K, hA, hB9, hV⟩ := id H
  have c16 := cpO_16 D.2.2.2
  cases hp9 : D.2.2.2 with
  | none =>
    rw [hp9] at hV hB hc hk c16
    obtain ⟨rfl, rfl⟩ := hV
    obtain ⟨k1, k2, k3, k4, k5, k6, k7, k8⟩ := id K
    have q1 : cpO none = 16 := rfl
    have q2 : (txO none).length = 0 := rfl
    have q3 : ([] : List Nat).length = 0 := rfl
    rw [q1] at hc hk
    rw [q2] at hk
    refine ev_newC (c' := c - 1) (k' := k - 4) [.null, vz 0, vz 0, vz 0] dX2_text_0 cf_J6 q1248 q284 q126 rfl (by omega) (by omega) (fun q1 hp_2 e3 B4 Hq1_5 f6 => ?_)
    have k1_7 := (f6 _ (ne_no k1 e3)).trans k1
    have z8 := ((Fr.refl (g := g) _ [])).fresh e3
    have F9 := ((Fr.refl (g := g) _ [])).alloc (Or.inl ⟨_, Hq1_5⟩) f6 e3
    refine ev_dup dX2_text_3 rfl ?_
    refine ev_callVR dX2_text_4 ci_X2_46 ce_J6_init Hq1_5 rfl rfl rfl (sb_init hG Hq1_5 B4) (by omega) (by omega) (by omega) (Nat.le_of_ble_eq_true rfl) (fun v10 h1 P10 => ?_)
    obtain ⟨rfl, bv, zb9, HB1, fr10⟩ := P10
    have zbv := (F9).fresh zb9
    have F1 := (F9).call fr10 (fun x hx => Or.inr (Or.inl (by rw [List.mem_singleton.mp hx]; exact z8)))
    have K1 := K.fr F1 (fun x hx => by cases hx)
    obtain ⟨k1', k2', k3', k4', k5', k6', k7', k8'⟩ := id K1
    refine ev_astore_n dX2_text_7 (by decide) rfl ?_
    dsimp only [List.set]
    refine ev_aload_n dX2_text_8 rfl ?_
    refine ev_getf dX2_text_9 gf_X2_36_X2 k1' rfl ?_
    refine ev_ifnullN (tgt := 23) dX2_text_12 (by decide) ?_
    refine ev_aload_n dX2_text_23 rfl ?_
    obtain ⟨A9, ha9, -⟩ := id HB1
    refine ev_callVR dX2_text_24 cv_X2_53_J6 ce_J6_toString ha9 rfl rfl rfl (sb_toString hG HB1) (by omega) (by omega) (by omega) (Nat.le_of_ble_eq_true rfl) (fun v8 h3 P8 => ?_)
    obtain ⟨r, w, rfl, z8, zw8, B8, Bw8, HS, F8⟩ := P8
    have FZ := F1.call F8 nil_in
    refine ev_areturn dX2_text_27 rfl (Or.inl ⟨_, rfl⟩) (Or.inr ⟨_, rfl⟩) ?_
    exact ⟨_, rfl, r, w, rfl, F1.fresh z8, F1.fresh zw8, B8, Bw8, HS, FZ⟩
  | some l =>
    rw [hp9] at hV hB hc hk c16
    obtain ⟨p, sc, ss, cu, ru, rfl, rfl, hN, hSc⟩ := hV
    obtain ⟨k1, k2, k3, k4, k5, k6, k7, k8⟩ := id K
    obtain ⟨hl1, hok⟩ := hl l hp9
    have hW := n_write hG 81 p l hN hl1 hok
    have q1 : cpO (some l) = capF (chV l) 16 0 := rfl
    have q2 : txO (some l) = (chV l).flatten := rfl
    rw [q1] at hc hk hB c16
    rw [q2] at hk
    rw [q2]
    refine ev_newC (c' := c - 1) (k' := k - 4) [.null, vz 0, vz 0, vz 0] dX2_text_0 cf_J6 q1248 q284 q126 rfl (by omega) (by omega) (fun q1 hp_2 e3 B4 Hq1_5 f6 => ?_)
    have k1_7 := (f6 _ (ne_no k1 e3)).trans k1
    have z8 := ((Fr.refl (g := g) _ [])).fresh e3
    have F9 := ((Fr.refl (g := g) _ [])).alloc (Or.inl ⟨_, Hq1_5⟩) f6 e3
    refine ev_dup dX2_text_3 rfl ?_
    refine ev_callVR dX2_text_4 ci_X2_46 ce_J6_init Hq1_5 rfl rfl rfl (sb_init hG Hq1_5 B4) (by omega) (by omega) (by omega) (Nat.le_of_ble_eq_true rfl) (fun v10 h1 P10 => ?_)
    obtain ⟨rfl, bv, zb9, HB1, fr10⟩ := P10
    have zbv := (F9).fresh zb9
    have F1 := (F9).call fr10 (fun x hx => Or.inr (Or.inl (by rw [List.mem_singleton.mp hx]; exact z8)))
    have K1 := K.fr F1 (fun x hx => by cases hx)
    obtain ⟨k1', k2', k3', k4', k5', k6', k7', k8'⟩ := id K1
    refine ev_astore_n dX2_text_7 (by decide) rfl ?_
    dsimp only [List.set]
    refine ev_aload_n dX2_text_8 rfl ?_
    refine ev_getf dX2_text_9 gf_X2_36_X2 k1' rfl ?_
    refine ev_ifnull dX2_text_12 ?_
    refine ev_aload_n dX2_text_15 rfl ?_
    refine ev_getf dX2_text_16 gf_X2_36_X2 k1' rfl ?_
    refine ev_aload_n dX2_text_19 rfl ?_
    have hI1 := hSI.fr0 F1
    refine ev_callNR dX2_text_20 (nv_X2_47 hG) fe_write ((hN.sub hI1).cls) rfl rfl (hW h1 q1 bv 16 (capF (chV l) 16 0) [] hI1 (hKC.fr F1) HB1 (hSI.none z8) (hSI.none zbv) (Nat.le_refl _) hB) (by omega) (by omega) (by omega) (Nat.le_of_ble_eq_true rfl) (fun v9 h2 P9 => ?_)
    obtain ⟨rfl, w2, HB2, hw2, F2⟩ := P9
    have F3 := F1.call F2 (fun x hx => Or.inr (Or.inl ((List.mem_cons.mp hx).elim (fun e => by rw [e]; exact z8) (fun e => by rw [List.mem_singleton.mp e]; exact zbv))))
    rw [List.nil_append] at HB2
    refine ev_aload_n dX2_text_23 rfl ?_
    obtain ⟨A9, ha9, -⟩ := id HB2
    refine ev_callVR dX2_text_24 cv_X2_53_J6 ce_J6_toString ha9 rfl rfl rfl (sb_toString hG HB2) (by omega) (by omega) (by omega) (Nat.le_of_ble_eq_true rfl) (fun v8 h3 P8 => ?_)
    obtain ⟨r, w, rfl, z8, zw8, B8, Bw8, HS, F8⟩ := P8
    have FZ := F3.call F8 nil_in
    refine ev_areturn dX2_text_27 rfl (Or.inl ⟨_, rfl⟩) (Or.inr ⟨_, rfl⟩) ?_
    exact ⟨_, rfl, r, w, rfl, F3.fresh z8, F3.fresh zw8, B8, Bw8, HS, FZ⟩
set_option maxRecDepth 100000 in
set_option maxHeartbeats 4000000 in
theorem k_isLike {I : HM} {a st fo : Nat} {D : Dn} (hG : GKx g) (hSI : Sub I h) (hKC : KC g h) (H : DnC g I h a st fo D) {b st2 fo2 : Nat} {D2 : Dn} (H2 : DnC g I h b st2 fo2 D2) (hpp : D.2.2.2 = D2.2.2.2) (hss : ∀ e : Nat, e < 8 → D.2.1 e = D2.2.1 e) (hff : ∀ f e : Nat, f < 4 → e < 8 → D.2.2.1 f e = D2.2.2.1 f e) (hrs : ∀ e : Nat, e < 8 → inR (D.2.1 e)) (hrf : ∀ f e : Nat, f < 4 → e < 8 → inR (D.2.2.1 f e)) (hB : cpO D.2.2.2 < 400000) (hd : 650 ≤ d) (hc : 2 * cpO D.2.2.2 + 8 ≤ c) (hk : 4 * cpO D.2.2.2 + 2 * (txO D.2.2.2).length + 16 ≤ k) (hl : ∀ l, D.2.2.2 = some l → l.length < 1000000 ∧ ∀ nd ∈ l, ndOk2 nd) : Kc g mX2_isLike d (c) (k) [.ref a, .ref b] h (rR (fun v h' => v = some (vz 1) ∧ Fr g h h' [])) := by
  refine Kc.of (ls := [some (.ref a), some (.ref b), none, none, none]) (by decide +kernel) (Nat.le_of_ble_eq_true rfl) rfl ?_
  obtain ⟨A, B, pv, sv, K, hA, hB9, hV⟩ := id H
  obtain ⟨A2, B2, pv2, sv2, K2, hA2, hB2, hV2⟩ := id H2
  have k1 := K.1
  have j1 := K2.1
  refine ev_aload_n dX2_isLike_0 rfl ?_
  refine ev_callVR dX2_isLike_1 cv_X2_57_X2 ce_X2_text k1 rfl rfl rfl (k_textX2 (d := 649) (c := cpO D.2.2.2 + 4) (k := 2 * cpO D.2.2.2 + (txO D.2.2.2).length + 8) hG hSI (hKC.fr (Fr.refl (g := g) _ [])) H hB (Nat.le_refl _) (Nat.le_refl _) (Nat.le_refl _) hl) (by omega) (by omega) (by omega) (Nat.le_of_ble_eq_true rfl) (fun v1 g1 P1 => ?_)
  obtain ⟨r1, w1, rfl, z1, y1, Bz1, By1, T1, fr1⟩ := P1
  have k1_1 := fr1.keep k1 (fun q => by cases q)
  have j1_2 := fr1.keep j1 (fun q => by cases q)
  have F3 := ((Fr.refl (g := g) _ [])).call fr1 nil_in
  have HH2 := H2.fr fr1 (fun x hx => by cases hx)
  have hSI2 := hSI.fr0 fr1
  refine ev_aload_n dX2_isLike_4 rfl ?_
  refine ev_callVR dX2_isLike_5 cv_X2_57_X2 ce_X2_text j1_2 rfl rfl rfl (k_textX2 (d := 649) (c := cpO D.2.2.2 + 4) (k := 2 * cpO D.2.2.2 + (txO D.2.2.2).length + 8) hG hSI2 (hKC.fr F3) HH2 (by rw [← hpp]; exact hB) (Nat.le_refl _) (by rw [hpp]; exact Nat.le_refl _) (by rw [hpp]; exact Nat.le_refl _) (by rw [← hpp]; exact hl)) (by omega) (by omega) (by omega) (Nat.le_of_ble_eq_true rfl) (fun v2 g2 P2 => ?_)
  obtain ⟨r2, w2, rfl, z2, y2, Bz2, By2, T2, fr2⟩ := P2
  have k1_4 := fr2.keep k1_1 (fun q => by cases q)
  have j1_5 := fr2.keep j1_2 (fun q => by cases q)
  have F6 := (F3).call fr2 nil_in
  have T1b := T1.fr fr2 (fun _ q => by cases q) (fun _ q => by cases q)
  obtain ⟨A7, x7, y7, e7, -⟩ := id T1b
  refine ev_callVE dX2_isLike_8 cv_X2_60_J7 ce_J7_equals e7 rfl rfl rfl (st_equals hG T1b T2) (by omega) (Nat.le_of_ble_eq_true rfl) ?_
  rw [if_pos (congrArg txO hpp)]
  refine ev_istore_n dX2_isLike_11 (by decide) rfl ?_
  dsimp only [List.set]
  refine ev_iconstZ dX2_isLike_12 ?_
  refine ev_istore_n dX2_isLike_13 (by decide) rfl ?_
  dsimp only [List.set]
  have FZ9 := F6
  have KZ := K.fr FZ9 (fun x hx => by cases hx)
  have KZ2 := K2.fr FZ9 (fun x hx => by cases hx)
  generalize g2 = h2 at KZ KZ2 FZ9 ⊢
  obtain ⟨m1, m2, m3, m4, m5, m6, m7, m8⟩ := KZ
  obtain ⟨n1, n2, n3, n4, n5, n6, n7, n8⟩ := KZ2
  refine ev_for (st := []) 8 (fun e h3 => h3 = h2) (fun e => [some (.ref a), some (.ref b), some (vz 1), some (vz ((e : Nat) : Int)), none]) 0 (Nat.zero_le _) rfl ⟨rfl, rfl, rfl, rfl, trivial⟩ (fun e h3 _ he eh hN => ?_) (fun h3 eh => ?_)
  · subst eh
    have hr8 := hrs e he
    refine ev_iload_n dX2_isLike_14 rfl ?_
    refine ev_bipushZ dX2_isLike_15 rfl ?_
    refine ev_icmp_geZ (tgt := 93) dX2_isLike_17 (by decide) (by omega) (by omega) (fun c17 => by omega) (fun c17 => ?_)
    refine ev_iload_n dX2_isLike_20 rfl ?_
    refine ev_aload_n dX2_isLike_21 rfl ?_
    refine ev_getf dX2_isLike_22 gf_X2_9_X2 m1 rfl ?_
    refine ev_iload_n dX2_isLike_25 rfl ?_
    refine ev_ialdY dX2_isLike_26 m2 (by omega) ?_
    rw [Int.toNat_natCast, hA e he]
    refine ev_aload_n dX2_isLike_27 rfl ?_
    refine ev_getf dX2_isLike_28 gf_X2_9_X2 n1 rfl ?_
    refine ev_iload_n dX2_isLike_31 rfl ?_
    refine ev_ialdY dX2_isLike_32 n2 (by omega) ?_
    rw [Int.toNat_natCast, hA2 e he, ← hss e he]
    refine ev_icmp_neZ (tgt := 40) dX2_isLike_33 (by decide) (by omega) (by omega) (fun c33 => absurd rfl c33) (fun c33 => ?_)
    refine ev_iconstZ dX2_isLike_36 ?_
    refine ev_goto (tgt := 41) dX2_isLike_37 (by decide) ?_
    refine ev_iandZ (a := 1) (b := 1) dX2_isLike_41 (by omega) (by omega) ?_
    refine ev_istore_n dX2_isLike_42 (by decide) rfl ?_
    dsimp only [List.set]
    refine ev_iconstZ dX2_isLike_43 ?_
    refine ev_istore dX2_isLike_44 (by decide) rfl ?_
    dsimp only [List.set]
    have hfr := hrf
    refine ev_for (st := []) 4 (fun f h4 => h4 = h3) (fun f => [some (.ref a), some (.ref b), some (vz 1), some (vz ((e : Nat) : Int)), some (vz ((f : Nat) : Int))]) 0 (Nat.zero_le _) rfl ⟨rfl, rfl, rfl, rfl, rfl, trivial⟩ (fun f h4 _ hf eh4 hK => ?_) (fun h4 eh4 => ?_)
    · subst eh4
      have rw1 := m4 f hf
      have rw2 := n4 f hf
      have hr9 := hrf f e hf he
      refine ev_iload dX2_isLike_46 rfl ?_
      refine ev_iconstZ dX2_isLike_48 ?_
      refine ev_icmp_geZ (tgt := 87) dX2_isLike_49 (by decide) (by omega) (by omega) (fun c49 => by omega) (fun c49 => ?_)
      refine ev_iload_n dX2_isLike_52 rfl ?_
      refine ev_aload_n dX2_isLike_53 rfl ?_
      refine ev_getf dX2_isLike_54 gf_X2_17_X2 m1 rfl ?_
      refine ev_iload dX2_isLike_57 rfl ?_
      refine ev_aaldY (v := .ref (fo + 1 + f)) dX2_isLike_59 m3 rfl rfl (by omega) (by rw [Int.toNat_natCast, if_pos hf]; rfl) ?_
      refine ev_iload_n dX2_isLike_60 rfl ?_
      refine ev_ialdY dX2_isLike_61 rw1 (by omega) ?_
      rw [Int.toNat_natCast, hB9 f e hf he]
      refine ev_aload_n dX2_isLike_62 rfl ?_
      refine ev_getf dX2_isLike_63 gf_X2_17_X2 n1 rfl ?_
      refine ev_iload dX2_isLike_66 rfl ?_
      refine ev_aaldY (v := .ref (fo2 + 1 + f)) dX2_isLike_68 n3 rfl rfl (by omega) (by rw [Int.toNat_natCast, if_pos hf]; rfl) ?_
      refine ev_iload_n dX2_isLike_69 rfl ?_
      refine ev_ialdY dX2_isLike_70 rw2 (by omega) ?_
      rw [Int.toNat_natCast, hB2 f e hf he, ← hff f e hf he]
      refine ev_icmp_neZ (tgt := 78) dX2_isLike_71 (by decide) (by omega) (by omega) (fun c71 => absurd rfl c71) (fun c71 => ?_)
      refine ev_iconstZ dX2_isLike_74 ?_
      refine ev_goto (tgt := 79) dX2_isLike_75 (by decide) ?_
      refine ev_iandZ (a := 1) (b := 1) dX2_isLike_79 (by omega) (by omega) ?_
      refine ev_istore_n dX2_isLike_80 (by decide) rfl ?_
      dsimp only [List.set]
      refine ev_iincZ dX2_isLike_81 rfl (by decide) rfl ?_
      dsimp only [List.set]
      refine ev_goto (tgt := 46) dX2_isLike_84 (by decide) ?_
      refine hK _ _ (by repeat' first | exact rfl | exact trivial | exact vz_eq (by omega) | refine And.intro ?_ ?_) rfl
    · subst eh4
      refine ev_iload dX2_isLike_46 rfl ?_
      refine ev_iconstZ dX2_isLike_48 ?_
      refine ev_icmp_geZ (tgt := 87) dX2_isLike_49 (by decide) (by omega) (by omega) (fun c49 => ?_) (fun c49 => by omega)
      refine ev_iincZ dX2_isLike_87 rfl (by decide) rfl ?_
      dsimp only [List.set]
      refine ev_goto (tgt := 14) dX2_isLike_90 (by decide) ?_
      refine hN _ _ (by repeat' first | exact rfl | exact trivial | exact vz_eq (by omega) | refine And.intro ?_ ?_) rfl
  · subst eh
    refine ev_iload_n dX2_isLike_14 rfl ?_
    refine ev_bipushZ dX2_isLike_15 rfl ?_
    refine ev_icmp_geZ (tgt := 93) dX2_isLike_17 (by decide) (by omega) (by omega) (fun c17 => ?_) (fun c17 => by omega)
    refine ev_iload_n dX2_isLike_93 rfl ?_
    refine ev_zreturn dX2_isLike_94 rfl rfl ?_
    exact ⟨_, rfl, rfl, FZ9⟩
end T1S

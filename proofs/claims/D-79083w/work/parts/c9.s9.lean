/-! THE COMPONENT: copy of a dance; small methods of dances (printed by gen) -/
section S9S
variable {g : GB} {M : MI} {d c k : Nat} {h : HM}
section
variable {h h2 : HM} {a st fo : Nat} {co ro : Int} {A : Nat → Int} {B : Nat → Nat → Int} {pv sv : Value}
theorem DnA.rowG {x : Nat} {X : Nat → Int} (K : DnA g h a st fo co ro A B pv sv) (hx : x < 4) (hn : h2 (fo + 1 + x) = some (.inl (0, (8, .inl (fun j => zI (X j)))))) (hq : ∀ q : Nat, q ≠ fo + 1 + x → h2 q = h q) : DnA g h2 a st fo co ro A (fun f => if f = x then X else B f) pv sv := by
  obtain ⟨k1, k2, k3, k4, k5, k6, k7, k8⟩ := K
  have kx := k4 x hx
  refine ⟨(hq _ (ne_of k1 kx (by simp))).trans k1, (hq _ (k8 x hx)).trans k2, (hq _ (ne_of k3 kx (by simp))).trans k3, fun f hf => ?_, k5, k6, k7, k8⟩
  by_cases c : f = x
  · subst c; dsimp only; rw [if_pos rfl]; exact hn
  · dsimp only; rw [if_neg c, hq _ (by omega)]; exact k4 f hf
/-- some cell of h -/
theorem DnA.some {x : Nat} (K : DnA g h a st fo co ro A B pv sv) (hx : x ∈ dnS a st fo) : h x ≠ none := by
  obtain ⟨k1, k2, k3, k4, k5, k6, k7, k8⟩ := K
  rcases dnS_mem hx with e | e | ⟨j, hj, e⟩
  · rw [e, k1]; exact fun q => by cases q
  · rw [e, k2]; exact fun q => by cases q
  · rw [e]
    cases j with
    | zero => rw [Nat.add_zero, k3]; exact fun q => by cases q
    | succ j => rw [show fo + (j + 1) = fo + 1 + j by omega, k4 j (by omega)]; exact fun q => by cases q
theorem dnV_pv {g : GB} {I : HM} {x : Option (List Nd)} {pv sv : Value} (H : dnV g I x pv sv) : (pv = .null ∨ ∃ p : Nat, pv = .ref p) ∧ (sv = .null ∨ ∃ p : Nat, sv = .ref p) := by
  cases x with
  | none => exact ⟨Or.inl H.1, Or.inl H.2⟩
  | some l => obtain ⟨p, s, ss, cu, ru, e1, e2, -⟩ := H; exact ⟨Or.inr ⟨p, e1⟩, Or.inr ⟨s, e2⟩⟩
end
set_option maxRecDepth 100000 in
set_option maxHeartbeats 4000000 in
theorem k_placesX2 {I : HM} {a st fo : Nat} {D : Dn} (H : DnC g I h a st fo D) : Kc g mX2_places d (0) (0) [.ref a] h (sR (some (vz (((D.1.1 : Nat) : Int) * ((D.1.2 : Nat) : Int)))) h) := by
  refine Kc.of (ls := [some (.ref a)]) (by decide +kernel) (Nat.le_of_ble_eq_true rfl) rfl ?_
  obtain ⟨A, B, pv, sv, K, hA, hB9, hV⟩ := id H
  obtain ⟨k1, k2, k3, k4, k5, k6, k7, k8⟩ := id K
  refine ev_aload_n dX2_places_0 rfl ?_
  refine ev_getf dX2_places_1 gf_X2_20_X2 k1 rfl ?_
  refine ev_aload_n dX2_places_4 rfl ?_
  refine ev_getf dX2_places_5 gf_X2_24_X2 k1 rfl ?_
  refine ev_imulZ dX2_places_8 ?_
  refine ev_ireturn dX2_places_9 rfl ?_
  exact ⟨rfl, rfl⟩
set_option maxRecDepth 100000 in
set_option maxHeartbeats 4000000 in
theorem k_takesX2 {I : HM} {a st fo : Nat} {D : Dn} (H : DnC g I h a st fo D) {e : Nat} (he : e < 8) (hr : inR (D.2.1 e)) : Kc g mX2_takesPart d (0) (0) [.ref a, vz ((e : Nat) : Int)] h (sR (some (vz (bI (tkB D e)))) h) := by
  refine Kc.of (ls := [some (.ref a), some (vz ((e : Nat) : Int))]) (by decide +kernel) (Nat.le_of_ble_eq_true rfl) rfl ?_
  obtain ⟨A, B, pv, sv, K, hA, hB9, hV⟩ := id H
  obtain ⟨k1, k2, k3, k4, k5, k6, k7, k8⟩ := id K
  refine ev_aload_n dX2_takesPart_0 rfl ?_
  refine ev_getf dX2_takesPart_1 gf_X2_9_X2 k1 rfl ?_
  refine ev_iload_n dX2_takesPart_4 rfl ?_
  refine ev_ialdY dX2_takesPart_5 k2 (by omega) ?_
  rw [Int.toNat_natCast, hA e he]
  refine ev_iconstZ dX2_takesPart_6 ?_
  refine ev_icmp_eqZ (tgt := 14) dX2_takesPart_7 (by decide) (by omega) (by omega) (fun c7 => ?_) (fun c7 => ?_)
  · refine ev_iconstZ dX2_takesPart_14 ?_
    refine ev_zreturn dX2_takesPart_15 rfl rfl ?_
    exact ⟨congrArg some (by unfold tkB; rw [bI_dec]; first | rw [if_pos (by omega)] | rw [if_neg (by omega)]) |> congrArg Sum.inl, rfl⟩
  · refine ev_iconstZ dX2_takesPart_10 ?_
    refine ev_goto (tgt := 15) dX2_takesPart_11 (by decide) ?_
    refine ev_zreturn dX2_takesPart_15 rfl rfl ?_
    exact ⟨congrArg some (by unfold tkB; rw [bI_dec]; first | rw [if_pos (by omega)] | rw [if_neg (by omega)]) |> congrArg Sum.inl, rfl⟩
theorem manyN_le (f : Nat → Int) : ∀ i, manyN f i ≤ i := by
  intro i
  induction i with
  | zero => exact Nat.le_refl _
  | succ i ih => show manyN f i + (if f i = -1 then 0 else 1) ≤ i + 1; split <;> omega
set_option maxRecDepth 100000 in
set_option maxHeartbeats 4000000 in
theorem k_partsX2 {I : HM} {a st fo : Nat} {D : Dn} (H : DnC g I h a st fo D) (hr : ∀ e : Nat, e < 8 → inR (D.2.1 e)) : Kc g mX2_participants d (0) (0) [.ref a] h (sR (some (vz ((manyN D.2.1 8 : Nat) : Int))) h) := by
  refine Kc.of (ls := [some (.ref a), none, none, none, none, none]) (by decide +kernel) (Nat.le_of_ble_eq_true rfl) rfl ?_
  obtain ⟨A, B, pv, sv, K, hA, hB9, hV⟩ := id H
  obtain ⟨k1, k2, k3, k4, k5, k6, k7, k8⟩ := id K
  refine ev_iconstZ dX2_participants_0 ?_
  refine ev_istore_n dX2_participants_1 (by decide) rfl ?_
  dsimp only [List.set]
  refine ev_aload_n dX2_participants_2 rfl ?_
  refine ev_getf dX2_participants_3 gf_X2_9_X2 k1 rfl ?_
  refine ev_astore_n dX2_participants_6 (by decide) rfl ?_
  dsimp only [List.set]
  refine ev_aload_n dX2_participants_7 rfl ?_
  refine ev_alenZ dX2_participants_8 k2 rfl ?_
  refine ev_istore_n dX2_participants_9 (by decide) rfl ?_
  dsimp only [List.set]
  refine ev_iconstZ dX2_participants_10 ?_
  refine ev_istore dX2_participants_11 (by decide) rfl ?_
  dsimp only [List.set]
  refine ev_for (st := []) 8 (fun i h1 => h1 = h) (fun i => [some (.ref a), some (vz ((manyN D.2.1 i : Nat) : Int)), some (.ref st), some (vz ((8 : Nat) : Int)), some (vz ((i : Nat) : Int)), none]) 0 (Nat.zero_le _) rfl ⟨rfl, rfl, rfl, rfl, rfl, trivial⟩ (fun i h1 _ hi eh hK => ?_) (fun h1 eh => ?_)
  · subst eh
    have hr9 := hr i hi
    have hm9 := manyN_le D.2.1 i
    refine ev_iload dX2_participants_13 rfl ?_
    refine ev_iload_n dX2_participants_15 rfl ?_
    refine ev_icmp_geZ (tgt := 45) dX2_participants_16 (by decide) (by omega) (by omega) (fun c16 => by omega) (fun c16 => ?_)
    refine ev_aload_n dX2_participants_19 rfl ?_
    refine ev_iload dX2_participants_20 rfl ?_
    refine ev_ialdY dX2_participants_22 k2 (by omega) ?_
    rw [Int.toNat_natCast, hA i hi]
    refine ev_istore dX2_participants_23 (by decide) rfl ?_
    dsimp only [List.set]
    refine ev_iload_n dX2_participants_25 rfl ?_
    refine ev_iload dX2_participants_26 rfl ?_
    refine ev_iconstZ dX2_participants_28 ?_
    refine ev_icmp_neZ (tgt := 36) dX2_participants_29 (by decide) (by omega) (by omega) (fun c29 => ?_) (fun c29 => ?_)
    · refine ev_iconstZ dX2_participants_36 ?_
      refine ev_iaddZ dX2_participants_37 ?_
      refine ev_istore_n dX2_participants_38 (by decide) rfl ?_
      dsimp only [List.set]
      refine ev_iincZ dX2_participants_39 rfl (by decide) rfl ?_
      dsimp only [List.set]
      refine ev_goto (tgt := 13) dX2_participants_42 (by decide) ?_
      refine hK _ _ ⟨rfl, vz_eq ?_, rfl, rfl, vz_eq (by omega), trivial⟩ rfl
      show _ = ((manyN D.2.1 i + (if D.2.1 i = -1 then 0 else 1) : Nat) : Int)
      first | rw [if_pos (by omega)]; omega | rw [if_neg (by omega)]; omega
    · refine ev_iconstZ dX2_participants_32 ?_
      refine ev_goto (tgt := 37) dX2_participants_33 (by decide) ?_
      refine ev_iaddZ dX2_participants_37 ?_
      refine ev_istore_n dX2_participants_38 (by decide) rfl ?_
      dsimp only [List.set]
      refine ev_iincZ dX2_participants_39 rfl (by decide) rfl ?_
      dsimp only [List.set]
      refine ev_goto (tgt := 13) dX2_participants_42 (by decide) ?_
      refine hK _ _ ⟨rfl, vz_eq ?_, rfl, rfl, vz_eq (by omega), trivial⟩ rfl
      show _ = ((manyN D.2.1 i + (if D.2.1 i = -1 then 0 else 1) : Nat) : Int)
      first | rw [if_pos (by omega)]; omega | rw [if_neg (by omega)]; omega
  · subst eh
    refine ev_iload dX2_participants_13 rfl ?_
    refine ev_iload_n dX2_participants_15 rfl ?_
    refine ev_icmp_geZ (tgt := 45) dX2_participants_16 (by decide) (by omega) (by omega) (fun c16 => ?_) (fun c16 => by omega)
    refine ev_iload_n dX2_participants_45 rfl ?_
    refine ev_ireturn dX2_participants_46 rfl ?_
    exact ⟨rfl, rfl⟩
set_option maxRecDepth 100000 in
set_option maxHeartbeats 4000000 in
theorem k_copyX2 {I : HM} {a st fo : Nat} {D : Dn} (H : DnC g I h a st fo D) (hG : GKx g) : Kc g mX2_copy 3 7 50 [.ref a] h (rR (fun v h' => ∃ q st2 fo2 : Nat, v = some (.ref q) ∧ DnC g I h' q st2 fo2 D ∧ Fr g h h' [] ∧ gB g ≤ q ∧ ∀ x ∈ dnS q st2 fo2, h x = none)) := by
  refine Kc.of (ls := [some (.ref a), none, none]) (by decide +kernel) (Nat.le_of_ble_eq_true rfl) rfl ?_
  obtain ⟨A, B, pv, sv, K, hA, hB9, hV⟩ := id H
  obtain ⟨k1, k2, k3, k4, k5, k6, k7, k8⟩ := id K
  refine ev_newC (c' := 6) (k' := 44) [vz 0, vz 0, .null, .null, .null, .null] dX2_copy_0 cf_X2 q1339 q186 q119 rfl (by omega) (by omega) (fun q1 hp_2 e3 B4 Hq1_5 f6 => ?_)
  have k1_7 := (f6 _ (ne_no k1 e3)).trans k1
  have k2_8 := (f6 _ (ne_no k2 e3)).trans k2
  have k3_9 := (f6 _ (ne_no k3 e3)).trans k3
  have z10 := ((Fr.refl (g := g) _ [])).fresh e3
  have F11 := ((Fr.refl (g := g) _ [])).alloc (Or.inl ⟨_, Hq1_5⟩) f6 e3
  refine ev_dup dX2_copy_3 rfl ?_
  refine ev_aload_n dX2_copy_4 rfl ?_
  refine ev_getf dX2_copy_5 gf_X2_20_X2 k1_7 rfl ?_
  refine ev_aload_n dX2_copy_8 rfl ?_
  refine ev_getf dX2_copy_9 gf_X2_24_X2 k1_7 rfl ?_
  refine ev_callVR dX2_copy_12 ci_X2_27 ce_X2_init Hq1_5 rfl rfl rfl (k_initX2 hG Hq1_5 B4) (by omega) (by omega) (by omega) (Nat.le_of_ble_eq_true rfl) (fun v12 h1 P12 => ?_)
  obtain ⟨rfl, st2, fo2, HD2, fr12, zs9, zf9⟩ := P12
  obtain ⟨A2, B2, pv2, sv2, K2, -, -, hV2⟩ := HD2 I
  obtain ⟨rfl, rfl⟩ := hV2
  have zq := z10
  have zst2 := (F11).fresh zs9
  have zfo2 := fun j hj => (F11).fresh (zf9 j hj)
  have F1 := (F11).call fr12 (fun x hx => Or.inr (Or.inl (by rw [List.mem_singleton.mp hx]; exact zq)))
  obtain ⟨q, hq9⟩ : ∃ x, x = q1 := ⟨_, rfl⟩
  rw [← hq9] at K2 zq
  clear HD2
  have K1 := K.fr F1 (fun x hx => by cases hx)
  obtain ⟨m1, m2, m3, m4, m5, m6, m7, m8⟩ := id K2
  obtain ⟨k1', k2', k3', k4', k5', k6', k7', k8'⟩ := id K1
  have naq : a ≠ q := ne_no k1 zq
  have nst : st ≠ st2 := ne_no k2 zst2
  have nfo : fo ≠ fo2 := ne_no k3 (by have := zfo2 0 (by omega); rwa [Nat.add_zero] at this)
  rw [← hq9]
  refine ev_astore_n dX2_copy_15 (by decide) rfl ?_
  dsimp only [List.set]
  refine ev_aload_n dX2_copy_16 rfl ?_
  refine ev_getf dX2_copy_17 gf_X2_9_X2 k1' rfl ?_
  refine ev_iconstZ dX2_copy_20 ?_
  refine ev_aload_n dX2_copy_21 rfl ?_
  refine ev_getf dX2_copy_22 gf_X2_9_X2 m1 rfl ?_
  refine ev_iconstZ dX2_copy_25 ?_
  refine ev_bipushZ dX2_copy_26 rfl ?_
  refine ev_copyiY (sp := 0) (dp := 0) (n := 8) dX2_copy_28 q1341 k2' m2 (Or.inl rfl) m6 (by omega) (by omega) (by omega) (by omega) (Nat.le_of_ble_eq_true rfl) (fun hp_b1 m2_b2 fb3 => ?_)
  have k1'_b4 := (fb3 _ (ne_of k1' m2 (by simp))).trans k1'
  have k2'_b5 := (fb3 _ nst).trans k2'
  have k3'_b6 := (fb3 _ (ne_of k3' m2 (by simp))).trans k3'
  have m1_b7 := (fb3 _ (ne_of m1 m2 (by simp))).trans m1
  have m3_b8 := (fb3 _ (ne_of m3 m2 (by simp))).trans m3
  have Fb9 := ((Fr.refl (g := g) h1 (dnS q st2 fo2))).write (Or.inr ⟨_, m2_b2, Nat.le_of_ble_eq_true rfl⟩) fb3 m6 (by simp [dnS])
  refine ev_iconstZ dX2_copy_31 ?_
  refine ev_istore_n dX2_copy_32 (by decide) rfl ?_
  dsimp only [List.set]
  have K3 := K2.start m2_b2 fb3
  have F3 := Fb9
  generalize hp_b1 = h2 at K3 F3 ⊢
  have hdis : ∀ x ∈ dnS q st2 fo2, x ∉ dnS a st fo := fun x hx hx2 => K.some hx2 (by rcases dnS_mem hx with e | e | ⟨j, hj, e⟩ <;> rw [e] <;> first | exact zq | exact zst2 | exact zfo2 j hj)
  obtain ⟨hpv, hsv⟩ := dnV_pv hV
  refine ev_for (st := []) 4 (fun f h3 => ∃ (A3 : Nat → Int) (B3 : Nat → Nat → Int), DnA g h3 q st2 fo2 D.1.1 D.1.2 A3 B3 .null .null ∧ (∀ e : Nat, e < 8 → A3 e = A e) ∧ (∀ x e : Nat, x < f → e < 8 → B3 x e = B x e) ∧ Fr g h1 h3 (dnS q st2 fo2)) (fun f => [some (.ref a), some (.ref q), some (vz ((f : Nat) : Int))]) 0 (Nat.zero_le _) ⟨_, _, K3, fun e he => ?_, fun x e hx => by omega, F3⟩ ⟨rfl, rfl, rfl, trivial⟩ (fun f h3 _ hf hP3 hN => ?_) (fun h3 hP3 => ?_)
  · unfold cpA; rw [if_pos (by omega), Nat.sub_zero, Nat.zero_add]
  · obtain ⟨A3, B3, K3, hA3, hB3, F3⟩ := hP3
    obtain ⟨m1, m2, m3, m4, m5, m6, m7, m8⟩ := id K3
    have K4 := K1.fr F3 hdis
    obtain ⟨n1, n2, n3, n4, n5, n6, n7, n8⟩ := id K4
    have rw1 := n4 f hf
    have rw2 := m4 f hf
    have rwB : gB g ≤ fo2 + 1 + f := by omega
    refine ev_iload_n dX2_copy_33 rfl ?_
    refine ev_iconstZ dX2_copy_34 ?_
    refine ev_icmp_geZ (tgt := 63) dX2_copy_35 (by decide) (by omega) (by omega) (fun c35 => by omega) (fun c35 => ?_)
    refine ev_aload_n dX2_copy_38 rfl ?_
    refine ev_getf dX2_copy_39 gf_X2_17_X2 n1 rfl ?_
    refine ev_iload_n dX2_copy_42 rfl ?_
    refine ev_aaldY (v := .ref (fo + 1 + f)) dX2_copy_43 n3 rfl rfl (by omega) (by rw [Int.toNat_natCast, if_pos hf]; rfl) ?_
    refine ev_iconstZ dX2_copy_44 ?_
    refine ev_aload_n dX2_copy_45 rfl ?_
    refine ev_getf dX2_copy_46 gf_X2_17_X2 m1 rfl ?_
    refine ev_iload_n dX2_copy_49 rfl ?_
    refine ev_aaldY (v := .ref (fo2 + 1 + f)) dX2_copy_50 m3 rfl rfl (by omega) (by rw [Int.toNat_natCast, if_pos hf]; rfl) ?_
    refine ev_iconstZ dX2_copy_51 ?_
    refine ev_bipushZ dX2_copy_52 rfl ?_
    refine ev_copyiY (sp := 0) (dp := 0) (n := 8) dX2_copy_54 q1341 rw1 rw2 (Or.inl rfl) rwB (by omega) (by omega) (by omega) (by omega) (Nat.le_of_ble_eq_true rfl) (fun hp_1 rw2_2 f3 => ?_)
    have n1_4 := (f3 _ (ne_of n1 rw2 (by simp))).trans n1
    have n3_5 := (f3 _ (ne_of n3 rw2 (by simp))).trans n3
    have m1_6 := (f3 _ (ne_of m1 rw2 (by simp))).trans m1
    have m3_7 := (f3 _ (ne_of m3 rw2 (by simp))).trans m3
    have rw1_8 := (f3 _ (fun e => hdis _ (mem_dnF hf) (e ▸ mem_dnF hf))).trans rw1
    have F9 := (F3).write (Or.inr ⟨_, rw2_2, Nat.le_of_ble_eq_true rfl⟩) f3 rwB (mem_dnF hf)
    refine ev_iincZ dX2_copy_57 rfl (by decide) rfl ?_
    dsimp only [List.set]
    refine ev_goto (tgt := 33) dX2_copy_60 (by decide) ?_
    refine hN _ _ (by repeat' first | exact rfl | exact trivial | exact vz_eq (by omega) | refine And.intro ?_ ?_) ⟨_, _, K3.rowG hf rw2_2 f3, hA3, fun x e hx he => ?_, F9⟩
    by_cases q9 : x = f
    · rw [if_pos q9, q9]; unfold cpA; rw [if_pos (by omega), Nat.sub_zero, Nat.zero_add]
    · rw [if_neg q9]; exact hB3 x e (by omega) he
  · obtain ⟨A3, B3, K3, hA3, hB3, F3⟩ := hP3
    obtain ⟨m1, m2, m3, m4, m5, m6, m7, m8⟩ := id K3
    have K4 := K1.fr F3 hdis
    obtain ⟨n1, n2, n3, n4, n5, n6, n7, n8⟩ := id K4
    refine ev_iload_n dX2_copy_33 rfl ?_
    refine ev_iconstZ dX2_copy_34 ?_
    refine ev_icmp_geZ (tgt := 63) dX2_copy_35 (by decide) (by omega) (by omega) (fun c35 => ?_) (fun c35 => by omega)
    refine ev_aload_n dX2_copy_63 rfl ?_
    refine ev_aload_n dX2_copy_64 rfl ?_
    refine ev_getf dX2_copy_65 gf_X2_36_X2 n1 rfl ?_
    refine ev_putC [vz ((D.1.1 : Nat) : Int), vz ((D.1.2 : Nat) : Int), .ref st2, .ref fo2, pv, .null] dX2_copy_68 gf_X2_36_X2 m1 m5 (Or.inl rfl) (by rcases hpv with e | ⟨p, e⟩ <;> rw [e] <;> rfl) (by rcases hpv with e | ⟨p, e⟩ <;> rw [e] <;> rfl) (Nat.le_of_ble_eq_true rfl) rfl (fun hp_1 m1_2 f3 => ?_)
    have n1_4 := (f3 _ naq).trans n1
    have n3_5 := (f3 _ (ne_of n3 m1 (by simp))).trans n3
    have m3_6 := (f3 _ (ne_of m3 m1 (by simp))).trans m3
    have F7 := (F3).write (Or.inl ⟨_, m1_2⟩) f3 m5 (by simp [dnS])
    have K5 := K3.top m1_2 f3
    refine ev_aload_n dX2_copy_71 rfl ?_
    refine ev_aload_n dX2_copy_72 rfl ?_
    refine ev_getf dX2_copy_73 gf_X2_40_X2 n1_4 rfl ?_
    refine ev_putC [vz ((D.1.1 : Nat) : Int), vz ((D.1.2 : Nat) : Int), .ref st2, .ref fo2, pv, sv] dX2_copy_76 gf_X2_40_X2 m1_2 m5 (Or.inl rfl) (by rcases hsv with e | ⟨p, e⟩ <;> rw [e] <;> rfl) (by rcases hsv with e | ⟨p, e⟩ <;> rw [e] <;> rfl) (Nat.le_of_ble_eq_true rfl) rfl (fun hp_8 m1_9 f10 => ?_)
    have n1_11 := (f10 _ naq).trans n1_4
    have n3_12 := (f10 _ (ne_of n3_5 m1_2 (by simp))).trans n3_5
    have m3_13 := (f10 _ (ne_of m3_6 m1_2 (by simp))).trans m3_6
    have F14 := (F7).write (Or.inl ⟨_, m1_9⟩) f10 m5 (by simp [dnS])
    refine ev_aload_n dX2_copy_79 rfl ?_
    refine ev_areturn dX2_copy_80 rfl (Or.inl ⟨_, rfl⟩) (Or.inr ⟨_, rfl⟩) ?_
    have K6 := K5.top m1_9 f10
    exact ⟨_, rfl, q, st2, fo2, rfl, ⟨_, _, _, _, K6, fun e he => (hA3 e he).trans (hA e he), fun x e hx he => (hB3 x e hx he).trans (hB9 x e hx he), hV⟩, F1.call F14 (fun x hx => Or.inr (Or.inl (by rcases dnS_mem hx with e | e | ⟨j, hj, e⟩ <;> rw [e] <;> first | exact zq | exact zst2 | exact zfo2 j hj))), m5, fun x hx => by rcases dnS_mem hx with e | e | ⟨j, hj, e⟩ <;> rw [e] <;> first | exact zq | exact zst2 | exact zfo2 j hj⟩
end S9S

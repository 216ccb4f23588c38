/-! THE COMPONENT: new Score(n), score() (printed by gen) -/
section L7S
variable {g : GB} {M : MI} {d c k : Nat} {h : HM}
section
variable {Q : RS → HM → Prop} {pc : Nat} {ls : List (Option Value)} {st : List Value} {a b : Int}
theorem ev_anewRY {idx c' k' N : Nat} (hG : GKx g) (hd : decode M.2.1 pc = .ok (.anewarray idx, 3)) (hw : (Jvm.Cond.classLink M.1.cls idx "DanceNotation$StepRule") ∈ lw_all) (h0 : 0 ≤ a) (hN : a.toNat = N) (hb : N ≤ 60000000) (h1 : c' + 1 ≤ c) (h2 : k' + N ≤ k) (kk : ∀ (q : Nat) (h' : HM), h q = none → gB g ≤ q → h' q = some (.inl (10, (N, .inr (.inr (.inr (.inr (fun _ => none))))))) → (∀ x : Nat, x ≠ q → h' x = h x) → Ev g M d c' k' Q (pc + 3) ls (.ref q :: st) h') : Ev g M d c k Q pc ls (vz a :: st) h :=
  ev_anewR hG hd hw (by rw [zI_lt0 (by omega)]; omega) (by rw [zI_clamp h0 (by omega)]; exact hN) (by omega) h1 h2 (fun q hq hB => kk q _ hq hB (hs_same _ _ _) (fun x hx => hs_ne hx))
theorem ev_anewIY {idx c' k' N : Nat} (hG : GKx g) (hd : decode M.2.1 pc = .ok (.anewarray idx, 3)) (hw : (Jvm.Cond.classLink M.1.cls idx "[I") ∈ lw_all) (h0 : 0 ≤ a) (hN : a.toNat = N) (hb : N ≤ 60000000) (h1 : c' + 1 ≤ c) (h2 : k' + N ≤ k) (kk : ∀ (q : Nat) (h' : HM), h q = none → gB g ≤ q → h' q = some (.inl (6, (N, .inr (.inr (.inr (.inr (fun _ => none))))))) → (∀ x : Nat, x ≠ q → h' x = h x) → Ev g M d c' k' Q (pc + 3) ls (.ref q :: st) h') : Ev g M d c k Q pc ls (vz a :: st) h :=
  ev_anewI hG hd hw (by rw [zI_lt0 (by omega)]; omega) (by rw [zI_clamp h0 (by omega)]; exact hN) (by omega) h1 h2 (fun q hq hB => kk q _ hq hB (hs_same _ _ _) (fun x hx => hs_ne hx))
theorem any_L (hG : GKx g) {i : Nat} (hi : i < 4) : ∀ (s : State) (H : Heap), g.2.2.2.1 s → KnG g s → NW s → Rel g h H → va_Any "DanceNotation$StepRule" s H (g.2.2.2.2 (56 + i)) := by
  intro s H hgk hkn hnw hR
  obtain ⟨mS, kS, i0, p0, cK, cellL, n1, n2, n3, hmade, hcan, hlt, hcellG, hcls, hvm⟩ := (hG s hgk).2.2.2.2.2.2.2.2.2.2.2 i hi
  subst hcls
  obtain ⟨kN, hkN, hkname⟩ := className_of_methodNamed n1
  cases n2.symm.trans hkN
  obtain ⟨kL, tk, file, methk, ck, toy, iface, t, found, a1, -⟩ := lam_facts ⟨i, hi⟩ n2 hkname hmade
  obtain ⟨i2, hi2, hasg, -⟩ := State.lambdaCallable_spec hcan
  refine ⟨cellL, by rw [hR.2.1 _ hlt]; exact hcellG, by rw [hvm]; rfl, ⟨kL, a1⟩, fun comp hc => ?_⟩
  have hi2' : s.vm.findClass "DanceNotation$StepRule" = some i2 := hi2
  cases hc.symm.trans hi2'
  exact hasg
theorem ev_aastL {i q n : Nat} {f : Nat → Option Nat} (hG : GKx g) (hi : i < 4) (hd : decode M.2.1 pc = .ok (.aastore, 1)) (ha : h q = some (.inl (10, (n, .inr (.inr (.inr (.inr (f)))))))) (hB : gB g ≤ q) (h0 : 0 ≤ a ∧ a < n ∧ inR a) (kk : ∀ h' : HM, h' q = some (.inl (10, (n, .inr (.inr (.inr (.inr (va_up f a.toNat (some (g.2.2.2.2 (56 + i)))))))))) → (∀ x : Nat, x ≠ q → h' x = h x) → Ev g M d c k Q (pc + 1) ls st h') : Ev g M d c k Q pc ls (.ref (g.2.2.2.2 (56 + i)) :: vz a :: .ref q :: st) h :=
  ev_aast hd ha rfl rfl hB (zI_in h0.1 h0.2.1 h0.2.2) (any_L hG hi) (by rw [zI_clamp h0.1 h0.2.2]; exact kk _ (hs_same _ _ _) (fun x hx => hs_ne hx))
/-- rows of rows -/
theorem ev_multiY {idx c' k' N K t u : Nat} {ty : FieldType} (hG : GKx g) (hd : decode M.2.1 pc = .ok (.multianewarray idx 2, 4)) (hw : (Jvm.Cond.classLink M.1.cls idx ("[" ++ (FieldType.array ty).toString)) ∈ lw_all) (ho : (Jvm.Cond.arrayOver (.array ty)) ∈ lw_tbl) (hac : (Jvm.Cond.arrayClass ty) ∈ lw_all)
    (ht : tyL[t]? = some (.array ty)) (hu : tyL[u]? = some ty) (hdf : fits ty (defaultValue ty) = true) (hdd : (defaultValue ty).isDefault = true) (hcb : componentBytes ty ≤ 8) (hdv : defaultValue ty = vz 0)
    (h0 : 0 ≤ a ∧ 0 ≤ b) (hN : a.toNat = N) (hK : b.toNat = K) (hb : N ≤ 10000 ∧ K ≤ 10000) (h1 : c' + 1 + N ≤ c) (h2 : k' + N + N * K ≤ k)
    (kk : ∀ (q : Nat) (h' : HM), (∀ j, j ≤ N → h (q + j) = none) → gB g ≤ q → h' q = some (.inl (t, (N, .inr (.inr (.inr (.inr (fun j => if j < N then some (q + 1 + j) else none))))))) → (∀ e, e < N → h' (q + 1 + e) = some (.inl (u, (K, .inl (fun j => zI ((fun _ : Nat => (0 : Int)) j)))))) → (∀ x : Nat, h x ≠ none → h' x = h x) → Ev g M d c' k' Q (pc + 4) ls (.ref q :: st) h') : Ev g M d c k Q pc ls (vz b :: vz a :: st) h := by
  refine ev_multi (x := (K, .inl (fun _ => 0))) (t := t) (u := u) (q0 := 0) hG hd hw ho hac ht hu hdf hdd hcb (fun cA => ?_) (by rw [zI_lt0 (by omega)]; omega) (by rw [zI_lt0 (by omega)]; omega) (by rw [zI_clamp h0.1 (by omega)]; exact hN) (by rw [zI_clamp h0.2 (by omega)]; exact hK) hb h1 h2 (fun q hq hB => kk q _ hq hB ?_ (fun e he => ?_) (fun x hx => ?_))
  · rw [hdv]
    show vp_cell cA (K, .inl (fun _ => 0)) = _
    refine cell_ext rfl rfl ?_ rfl rfl
    show (arrV _ K _).slots = Array.replicate K (vz 0)
    simp only [arrV]
    apply Array.ext
    · simp
    · intro i h1 h2; simp; rfl
  · unfold hsM; rw [if_pos rfl]
  · unfold hsM; rw [if_neg (by omega), if_pos (by omega)]; rfl
  · unfold hsM
    by_cases c1 : x = q
    · exact absurd (by rw [c1]; exact hq 0 (Nat.zero_le _)) hx
    · rw [if_neg c1]
      by_cases c2 : q < x ∧ x ≤ q + N
      · exact absurd (by have := hq (x - q) (by omega); rw [show q + (x - q) = x by omega] at this; exact this) hx
      · rw [if_neg c2]
end
theorem Fr.grow {h h' : HM} {S : List Nat} (hq : ∀ x : Nat, h x ≠ none → h' x = h x) : Fr g h h' S := ⟨fun q hn => by rw [hq q hn]; exact hn, fun q hn _ => hq q hn, fun q ho => isO.eq (hq q (by rcases ho with ⟨x, e⟩ | ⟨x, e, -⟩ <;> rw [e] <;> exact fun q => by cases q)) ho⟩
theorem RUF_eq (c : Nat → Nat) : va_up (va_up (va_up (va_up (fun _ => none) (0 : Int).toNat (some (c (56 + 0)))) (1 : Int).toNat (some (c (56 + 1)))) (2 : Int).toNat (some (c (56 + 2)))) (3 : Int).toNat (some (c (56 + 3))) = fun j => if j < 4 then some (c (56 + j)) else none := by
  funext j
  match j with
  | 0 => rfl
  | 1 => rfl
  | 2 => rfl
  | 3 => rfl
  | j + 4 =>
    rw [if_neg (by omega)]
    rfl
set_option maxRecDepth 100000 in
set_option maxHeartbeats 4000000 in
theorem k_initX5 {a n : Nat} (hG : GKx g) (ha : h a = some (.inr (4, [vz 0, .null, .null, .null]))) (hB : gB g ≤ a) (hn : n ≤ 99) (hd50 : 50 ≤ d) : Kc g mX5_init d (11) (9 * n + 13) [.ref a, vz ((n : Nat) : Int)] h (rR (fun v h' => v = none ∧ ∃ ss cu ru : Nat, ScH g h' a n ss cu ru (fun _ _ => 46) (fun _ => 0) ∧ Fr g h h' [a] ∧ h cu = none ∧ h ss = none ∧ h ru = none ∧ ∀ e : Nat, e < 8 → h (ss + 1 + e) = none)) := by
  refine Kc.of (ls := [some (.ref a), some (vz ((n : Nat) : Int)), none, none, none, none, none]) (by decide +kernel) (Nat.le_of_ble_eq_true rfl) rfl ?_
  refine ev_aload_n dX5_init_0 rfl ?_
  refine ev_objInit dX5_init_1 q1143 q183 q184 (by omega) rfl ?_
  refine ev_aload_n dX5_init_4 rfl ?_
  refine ev_iconstZ dX5_init_5 ?_
  refine ev_anewRY (N := 4) (c' := 10) (k' := 9 * n + 9) hG dX5_init_6 q1144 (by omega) (by omega) (by omega) (by omega) (by omega) (fun q1 hp_2 e3 B4 Hq1_5 f6 => ?_)
  have ha_7 := (f6 _ (ne_no ha e3)).trans ha
  have z8 := ((Fr.refl (g := g) _ [a])).fresh e3
  have F9 := ((Fr.refl (g := g) _ [a])).alloc (Or.inr ⟨_, Hq1_5, Nat.le_of_ble_eq_true rfl⟩) f6 e3
  refine ev_dup dX5_init_9 rfl ?_
  refine ev_iconstZ dX5_init_10 ?_
  refine ev_indy (i := 0) hG (by omega) rfl rfl dX5_init_11 hd50 (Nat.le_of_ble_eq_true rfl) ?_
  refine ev_aastL (i := 0) hG (by omega) dX5_init_16 Hq1_5 B4 (by omega) (fun hp_10 Hq1_11 f12 => ?_)
  have ha_13 := (f12 _ (ne_no ha e3)).trans ha_7
  have F14 := (F9).writeN (Or.inr ⟨_, Hq1_11, Nat.le_of_ble_eq_true rfl⟩) f12 z8
  refine ev_dup dX5_init_17 rfl ?_
  refine ev_iconstZ dX5_init_18 ?_
  refine ev_indy (i := 1) hG (by omega) rfl rfl dX5_init_19 hd50 (Nat.le_of_ble_eq_true rfl) ?_
  refine ev_aastL (i := 1) hG (by omega) dX5_init_24 Hq1_11 B4 (by omega) (fun hp_15 Hq1_16 f17 => ?_)
  have ha_18 := (f17 _ (ne_no ha e3)).trans ha_13
  have F19 := (F14).writeN (Or.inr ⟨_, Hq1_16, Nat.le_of_ble_eq_true rfl⟩) f17 z8
  refine ev_dup dX5_init_25 rfl ?_
  refine ev_iconstZ dX5_init_26 ?_
  refine ev_indy (i := 2) hG (by omega) rfl rfl dX5_init_27 hd50 (Nat.le_of_ble_eq_true rfl) ?_
  refine ev_aastL (i := 2) hG (by omega) dX5_init_32 Hq1_16 B4 (by omega) (fun hp_20 Hq1_21 f22 => ?_)
  have ha_23 := (f22 _ (ne_no ha e3)).trans ha_18
  have F24 := (F19).writeN (Or.inr ⟨_, Hq1_21, Nat.le_of_ble_eq_true rfl⟩) f22 z8
  refine ev_dup dX5_init_33 rfl ?_
  refine ev_iconstZ dX5_init_34 ?_
  refine ev_indy (i := 3) hG (by omega) rfl rfl dX5_init_35 hd50 (Nat.le_of_ble_eq_true rfl) ?_
  refine ev_aastL (i := 3) hG (by omega) dX5_init_40 Hq1_21 B4 (by omega) (fun hp_25 Hq1_26 f27 => ?_)
  have ha_28 := (f27 _ (ne_no ha e3)).trans ha_23
  have F29 := (F24).writeN (Or.inr ⟨_, Hq1_26, Nat.le_of_ble_eq_true rfl⟩) f27 z8
  refine ev_putC [vz 0, .null, .null, .ref q1] dX5_init_41 gf_X5_18_X5 ha_28 hB (Or.inr ⟨rfl, rfl⟩) rfl rfl (Nat.le_of_ble_eq_true rfl) rfl (fun hp_30 ha_31 f32 => ?_)
  have Hq1_33 := (f32 _ ((ne_no ha e3)).symm).trans Hq1_26
  have F34 := (F29).write (Or.inl ⟨_, ha_31⟩) f32 hB (by simp)
  refine ev_aload_n dX5_init_44 rfl ?_
  refine ev_iload_n dX5_init_45 rfl ?_
  refine ev_putC [vz ((n : Nat) : Int), .null, .null, .ref q1] dX5_init_46 gf_X5_24_X5 ha_31 hB (Or.inr ⟨rfl, rfl⟩) rfl rfl (Nat.le_of_ble_eq_true rfl) rfl (fun hp_35 ha_36 f37 => ?_)
  have Hq1_38 := (f37 _ ((ne_no ha e3)).symm).trans Hq1_33
  have F39 := (F34).write (Or.inl ⟨_, ha_36⟩) f37 hB (by simp)
  refine ev_aload_n dX5_init_49 rfl ?_
  refine ev_bipushZ dX5_init_50 rfl ?_
  refine ev_iload_n dX5_init_52 rfl ?_
  refine ev_multiY (ty := .char) (t := 7) (u := 3) (N := 8) (K := n) (c' := 1) (k' := n + 1) hG dX5_init_53 (by rw [show "[" ++ (FieldType.array .char).toString = "[[C" by decide +kernel]; exact q1161) q1162 q1185 rfl rfl (by decide) (by decide) (by decide) rfl (by omega) (by omega) (by omega) (by omega) (by omega) (by omega) (fun ss hB9 hf hsB hss hrow hold => ?_)
  have haB : hB9 a = _ := (hold a (by rw [ha_36]; exact fun q => by cases q)).trans ha_36
  have hruB : hB9 q1 = _ := (hold q1 (by rw [Hq1_38]; exact fun q => by cases q)).trans Hq1_38
  rw [RUF_eq] at hruB
  have FA9 := F39
  have zru := z8
  have zss : ∀ j, j ≤ 8 → h (ss + j) = none := fun j hj => FA9.fresh (hf j hj)
  refine ev_putC [vz ((n : Nat) : Int), .ref ss, .null, .ref q1] dX5_init_57 gf_X5_30_X5 haB hB (Or.inr ⟨rfl, rfl⟩) rfl rfl (Nat.le_of_ble_eq_true rfl) rfl (fun hp_b1 haB_b2 fb3 => ?_)
  have hruB_b4 := (fb3 _ (ne_of hruB haB (by simp))).trans hruB
  have hss_b5 := (fb3 _ (ne_of hss haB (by simp))).trans hss
  have Fb6 := ((Fr.refl (g := g) hB9 [a])).write (Or.inl ⟨_, haB_b2⟩) fb3 hB (by simp)
  refine ev_aload_n dX5_init_60 rfl ?_
  refine ev_iload_n dX5_init_61 rfl ?_
  refine ev_iconstZ dX5_init_62 ?_
  refine ev_iaddZ dX5_init_63 ?_
  refine ev_newA_int (N := (n + 1)) (c' := 0) (k' := 0) dX5_init_64 (by omega) (by omega) (by omega) (by omega) (by omega) (fun qb7 hp_b8 eb9 Bb10 Hqb7_b11 fb12 => ?_)
  have haB_b13 := (fb12 _ (ne_no haB_b2 eb9)).trans haB_b2
  have hruB_b14 := (fb12 _ (ne_no hruB_b4 eb9)).trans hruB_b4
  have hss_b15 := (fb12 _ (ne_no hss_b5 eb9)).trans hss_b5
  have zb16 := (Fb6).fresh eb9
  have Fb17 := (Fb6).alloc (Or.inr ⟨_, Hqb7_b11, Nat.le_of_ble_eq_true rfl⟩) fb12 eb9
  refine ev_putC [vz ((n : Nat) : Int), .ref ss, .ref qb7, .ref q1] dX5_init_66 gf_X5_33_X5 haB_b13 hB (Or.inr ⟨rfl, rfl⟩) rfl rfl (Nat.le_of_ble_eq_true rfl) rfl (fun hp_b18 haB_b19 fb20 => ?_)
  have hruB_b21 := (fb20 _ (ne_of hruB_b14 haB_b13 (by simp))).trans hruB_b14
  have hss_b22 := (fb20 _ (ne_of hss_b15 haB_b13 (by simp))).trans hss_b15
  have Hqb7_b23 := (fb20 _ ((ne_no haB_b2 eb9)).symm).trans Hqb7_b11
  have Fb24 := (Fb17).write (Or.inl ⟨_, haB_b19⟩) fb20 hB (by simp)
  refine ev_aload_n dX5_init_69 rfl ?_
  refine ev_getf dX5_init_70 gf_X5_30_X5 haB_b19 rfl ?_
  refine ev_astore_n dX5_init_73 (by decide) rfl ?_
  dsimp only [List.set]
  refine ev_aload_n dX5_init_74 rfl ?_
  refine ev_alenZ dX5_init_75 hss_b22 rfl ?_
  refine ev_istore_n dX5_init_76 (by decide) rfl ?_
  dsimp only [List.set]
  refine ev_iconstZ dX5_init_77 ?_
  refine ev_istore dX5_init_78 (by decide) rfl ?_
  dsimp only [List.set]
  have FB9 := Fb24
  have zcu : h qb7 = none := FA9.fresh ((Fr.grow (g := g) (S := []) hold).fresh zb16)
  have K0 : ScA g hp_b18 a n ss qb7 q1 (fun _ _ => 0) (fun _ => 0) := ⟨haB_b19, hss_b22, fun e he => FB9.keep (hrow e he) (fun q => by rw [List.mem_singleton] at q; exact ne_of (hrow e he) haB (by simp) q), Hqb7_b23, hruB_b21, Bb10, hsB⟩
  obtain ⟨cu, hcu⟩ : ∃ x, x = qb7 := ⟨_, rfl⟩
  obtain ⟨ru, hru⟩ : ∃ x, x = q1 := ⟨_, rfl⟩
  rw [← hcu] at K0 zcu
  rw [← hru] at K0 zru
  generalize hp_b18 = hC at K0 FB9 ⊢
  refine ev_for (st := []) 8 (fun i h1 => ∃ A, ScA g h1 a n ss cu ru A (fun _ => 0) ∧ (∀ e k : Nat, e < i → k < n → A e k = 46) ∧ Fr g hC h1 (scS ss cu)) (fun i => [some (.ref a), some (vz ((n : Nat) : Int)), some (.ref ss), some (vz 8), some (vz ((i : Nat) : Int)), none, none]) 0 (Nat.zero_le _) ⟨_, K0, fun e k he => by omega, Fr.refl _ _⟩ ⟨rfl, rfl, rfl, rfl, rfl, trivial⟩ (fun i h1 _ hi hP1 hN => ?_) (fun h1 hP1 => ?_)
  · obtain ⟨A1, K1, hA1, F1⟩ := hP1
    obtain ⟨k1, k2, k3, k4, k5, k6, k7⟩ := id K1
    refine ev_iload dX5_init_80 rfl ?_
    refine ev_iload_n dX5_init_82 rfl ?_
    refine ev_icmp_geZ (tgt := 120) dX5_init_83 (by decide) (by omega) (by omega) (fun c83 => by omega) (fun c83 => ?_)
    refine ev_aload_n dX5_init_86 rfl ?_
    refine ev_iload dX5_init_87 rfl ?_
    refine ev_aaldY (v := .ref (ss + 1 + i)) dX5_init_89 k2 rfl rfl (by omega) (by rw [Int.toNat_natCast, if_pos hi]; rfl) ?_
    refine ev_astore dX5_init_90 (by decide) rfl ?_
    dsimp only [List.set]
    refine ev_iconstZ dX5_init_92 ?_
    refine ev_istore dX5_init_93 (by decide) rfl ?_
    dsimp only [List.set]
    refine ev_for (st := []) n (fun j h2 => ∃ A, ScA g h2 a n ss cu ru A (fun _ => 0) ∧ (∀ e k : Nat, e < i → k < n → A e k = 46) ∧ (∀ k : Nat, k < j → A i k = 46) ∧ Fr g hC h2 (scS ss cu)) (fun j => [some (.ref a), some (vz ((n : Nat) : Int)), some (.ref ss), some (vz 8), some (vz ((i : Nat) : Int)), some (.ref (ss + 1 + i)), some (vz ((j : Nat) : Int))]) 0 (Nat.zero_le _) ⟨A1, K1, hA1, fun k hk => by omega, F1⟩ ⟨rfl, rfl, rfl, rfl, rfl, rfl, rfl, trivial⟩ (fun j h2 _ hj hP2 hK => ?_) (fun h2 hP2 => ?_)
    · obtain ⟨A2, K2, hA2, hA3, F2⟩ := hP2
      obtain ⟨k1, k2, k3, k4, k5, k6, k7⟩ := id K2
      refine ev_iload dX5_init_95 rfl ?_
      refine ev_iload_n dX5_init_97 rfl ?_
      refine ev_icmp_geZ (tgt := 114) dX5_init_98 (by decide) (by omega) (by omega) (fun c98 => by omega) (fun c98 => ?_)
      refine ev_aload dX5_init_101 rfl ?_
      refine ev_iload dX5_init_103 rfl ?_
      refine ev_bipushZ dX5_init_105 rfl ?_
      refine ev_chstY dX5_init_107 (k3 i hi) (by omega) (by omega) (by omega) (fun h3 hn3 fr3 => ?_)
      rw [Int.toNat_natCast] at hn3
      refine ev_iincZ dX5_init_108 rfl (by decide) rfl ?_
      dsimp only [List.set]
      refine ev_goto (tgt := 95) dX5_init_111 (by decide) ?_
      refine hK _ _ (by repeat' first | exact rfl | exact trivial | exact vz_eq (by omega) | refine And.intro ?_ ?_) ⟨_, ScA.row K2 hi hn3 fr3, fun e k he hk => ?_, fun k hk => ?_, F2.write (Or.inr ⟨_, hn3, Nat.le_of_ble_eq_true rfl⟩) fr3 (by omega) (mem_scS hi)⟩
      · rw [if_neg (by omega)]; exact hA2 e k he hk
      · rw [if_pos rfl]
        unfold uz
        by_cases q : k = j
        · rw [if_pos q]
        · rw [if_neg q]; exact hA3 k (by omega)
    · obtain ⟨A2, K2, hA2, hA3, F2⟩ := hP2
      obtain ⟨k1, k2, k3, k4, k5, k6, k7⟩ := id K2
      refine ev_iload dX5_init_95 rfl ?_
      refine ev_iload_n dX5_init_97 rfl ?_
      refine ev_icmp_geZ (tgt := 114) dX5_init_98 (by decide) (by omega) (by omega) (fun c98 => ?_) (fun c98 => by omega)
      refine ev_iincZ dX5_init_114 rfl (by decide) rfl ?_
      dsimp only [List.set]
      refine ev_goto (tgt := 80) dX5_init_117 (by decide) ?_
      refine hN _ _ (by repeat' first | exact rfl | exact trivial | exact vz_eq (by omega) | refine And.intro ?_ ?_) ⟨A2, K2, fun e k he hk => ?_, F2⟩
      by_cases q : e = i
      · rw [q]; exact hA3 k hk
      · exact hA2 e k (by omega) hk
  · obtain ⟨A1, K1, hA1, F1⟩ := hP1
    obtain ⟨k1, k2, k3, k4, k5, k6, k7⟩ := id K1
    refine ev_iload dX5_init_80 rfl ?_
    refine ev_iload_n dX5_init_82 rfl ?_
    refine ev_icmp_geZ (tgt := 120) dX5_init_83 (by decide) (by omega) (by omega) (fun c83 => ?_) (fun c83 => by omega)
    refine ev_return dX5_init_120 rfl ?_
    exact ⟨_, rfl, rfl, ss, cu, ru, ⟨A1, _, K1, hA1, fun _ _ => rfl⟩, ((FA9.call (Fr.grow (S := []) hold) nil_in).call FB9 (fun x hx => Or.inl hx)).call F1 (fun x hx => Or.inr (Or.inl (by
      rcases scS_mem hx with r | ⟨e, he, r⟩
      · rw [r]; exact zcu
      · rw [r, Nat.add_assoc]; exact zss (1 + e) (by omega)))), zcu, zss 0 (by omega), zru, fun e he => by rw [Nat.add_assoc]; exact zss (1 + e) (by omega)⟩
end L7S

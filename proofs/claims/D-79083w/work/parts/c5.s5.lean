/-! THE COMPONENT: leaves(), next, hasNext, changedBy (printed by gen) -/
section S5S
variable {g : GB} {M : MI} {d c k : Nat} {h : HM}
set_option maxRecDepth 100000 in
set_option maxHeartbeats 4000000 in
theorem k_hasNext18 {I hb : HM} {S0 : List Nat} {it ll th : Nat} {mc : Int} {L : List (Nat × Nat)} {ls : List (List Nd)} (hit : I it = some (.inr (14, [.ref ll, .ref th]))) (W : WLh g I hb S0 h ll mc L ls) (hn : L.length < 2000000) : Kc g mX18_hasNext (d + 2) (0) (0) [.ref it] h (sR (some (vz (if L.length = 0 then 0 else 1))) h) := by
  refine Kc.of (ls := [some (.ref it)]) (by decide +kernel) (Nat.le_of_ble_eq_true rfl) rfl ?_
  have hit1 := W.2.1 _ _ hit
  refine ev_aload_n dX18_hasNext_0 rfl ?_
  refine ev_getf dX18_hasNext_1 gf_X18_7_X18 hit1 rfl ?_
  refine ev_callVE dX18_hasNext_4 cv_X18_17_J3 ce_J0_isEmpty W.1.1 rfl rfl rfl (ll_isEmpty W.1.1 (by omega)) (by omega) (Nat.le_of_ble_eq_true rfl) ?_
  refine ev_if_neZ (tgt := 14) dX18_hasNext_7 (by decide) (by split <;> omega) (fun c7 => ?_) (fun c7 => ?_)
  · have e9 : L.length = 0 := Decidable.byContradiction (fun e => by rw [if_neg e] at c7; exact absurd c7 (by decide))
    refine ev_iconstZ dX18_hasNext_14 ?_
    refine ev_zreturn dX18_hasNext_15 rfl rfl ?_
    exact ⟨by first | rw [if_pos e9] | rw [if_neg e9], rfl⟩
  · have e9 : ¬ L.length = 0 := (fun e => by rw [if_pos e] at c7; exact absurd c7 (by decide))
    refine ev_iconstZ dX18_hasNext_10 ?_
    refine ev_goto (tgt := 15) dX18_hasNext_11 (by decide) ?_
    refine ev_zreturn dX18_hasNext_15 rfl rfl ?_
    exact ⟨by first | rw [if_pos e9] | rw [if_neg e9], rfl⟩
set_option maxRecDepth 100000 in
set_option maxHeartbeats 4000000 in
theorem k_next2 (hG : GKx g) {I hb : HM} {S0 : List Nat} {it ll th p q : Nat} {mc : Int} {t : List (Nat × Nat)} {l : List Nd} {ms : List (List Nd)} (hit : I it = some (.inr (14, [.ref ll, .ref th]))) (W : WLh g I hb S0 h ll mc ((p, q) :: t) (l :: ms)) : ∃ (nd : Nd) (ls0 : List (List Nd)) (k1 : Nat), nd.1 ≤ 2 ∧ leafL (l :: ms).flatten = nd :: leafL (ls0 ++ ms).flatten ∧ pot (l :: ms).flatten = k1 + pot (ls0 ++ ms).flatten ∧ nd ∈ l ∧ ∀ c k d : Nat, k1 ≤ c → 3 * k1 ≤ k → 6 ≤ d → Kc g mX18_next_2 d c k [.ref it] h (QN g I hb S0 ll nd (ls0 ++ ms)) := by
  obtain ⟨hN, hln⟩ := W.2.2.2.1.2 0 q l rfl rfl
  obtain ⟨nd, ls0, k1, g1, g2, g3, g4, hI3⟩ := nx11 (hb := hb) (S0 := S0) hG hit 81 q l hN (Nat.le_refl _) hln
  refine ⟨nd, ls0, k1, g1, ?_, ?_, g4, fun c k d hc hk9 hd => ?_⟩
  · rw [List.flatten_cons, leafL_app, g2, List.flatten_append, leafL_app]; rfl
  · rw [List.flatten_cons, pot_app, g3, List.flatten_append, pot_app]; omega
  · have hit1 := W.2.1 _ _ hit
    refine Kc.of (ls := [some (.ref it), none, none]) (by decide +kernel) (Nat.le_of_ble_eq_true rfl) rfl ?_
    refine ev_aload_n dX18_next_2_0 rfl ?_
    refine ev_getf dX18_next_2_1 gf_X18_7_X18 hit1 rfl ?_
    refine ev_callVR dX18_next_2_4 cv_X18_23_J3 ce_J3_removeFirst W.1.1 rfl rfl rfl (ll_removeFirst W.1) (by omega) (by omega) (by omega) (Nat.le_of_ble_eq_true rfl) (fun v9 h2 P9 => ?_)
    obtain ⟨rfl, H9, F9⟩ := P9
    have W2 : WLh g I hb S0 h2 ll (mc + 1) t ms := W.next F9 H9 (fun x hx => Or.inl (List.mem_cons_of_mem _ hx)) ⟨by have := W.2.2.2.1.1; simpa using this, fun i q2 c2 h1 h2 => W.2.2.2.1.2 (i + 1) q2 c2 h1 h2⟩
    refine ev_castN dX18_next_2_7 q860 ((hN.sub W2.2.1).cls) ?_
    refine ev_astore_n dX18_next_2_10 (by decide) rfl ?_
    dsimp only [List.set]
    exact hI3 _ t (mc + 1) ms _ _ _ W2 hc hk9 (by omega) _
set_option maxRecDepth 100000 in
set_option maxHeartbeats 4000000 in
theorem k_next18 (hG : GKx g) {I hb : HM} {S0 : List Nat} {it ll th c1 k1 : Nat} {nd : Nd} {ls : List (List Nd)} (hit1 : h it = some (.inr (14, [.ref ll, .ref th]))) (hk : Kc g mX18_next_2 6 c1 k1 [.ref it] h (QN g I hb S0 ll nd ls)) (hd : 7 ≤ d) : Kc g mX18_next d (c1) (k1) [.ref it] h (QN g I hb S0 ll nd ls) := by
  refine Kc.of (ls := [some (.ref it)]) (by decide +kernel) (Nat.le_of_ble_eq_true rfl) rfl ?_
  refine ev_aload_n dX18_next_0 rfl ?_
  refine ev_callVR dX18_next_1 cv_X18_41_X18 ce_X18_next_2 hit1 rfl rfl rfl hk (by omega) (Nat.le_refl _) (Nat.le_refl _) (Nat.le_of_ble_eq_true rfl) (fun v9 h2 P9 => ?_)
  obtain ⟨r, L', mc', rfl, hnd, W'⟩ := P9
  refine ev_areturn dX18_next_4 rfl (Or.inl ⟨_, rfl⟩) (Or.inr ⟨_, rfl⟩) ?_
  exact ⟨_, rfl, r, L', mc', rfl, hnd, W'⟩
set_option maxRecDepth 100000 in
set_option maxHeartbeats 4000000 in
theorem k_i18 {a th ll : Nat} {x y : Value} (ha : h a = some (.inr (14, [x, y]))) (hB : gB g ≤ a) : Kc g mX18_init 2 (0) (0) [.ref a, .ref th, .ref ll] h (rR (fun v h' => v = none ∧ h' a = some (.inr (14, [.ref ll, .ref th])) ∧ Fr g h h' [a])) := by
  refine Kc.of (ls := [some (.ref a), some (.ref th), some (.ref ll)]) (by decide +kernel) (Nat.le_of_ble_eq_true rfl) rfl ?_
  refine ev_aload_n dX18_init_0 rfl ?_
  refine ev_aload_n dX18_init_1 rfl ?_
  refine ev_putC [x, .ref th] dX18_init_2 gf_X18_1_X18 ha hB (Or.inr ⟨rfl, rfl⟩) rfl rfl (Nat.le_of_ble_eq_true rfl) rfl (fun hp_1 ha_2 f3 => ?_)
  have F4 := ((Fr.refl (g := g) _ [a])).write (Or.inl ⟨_, ha_2⟩) f3 hB (by simp)
  refine ev_aload_n dX18_init_5 rfl ?_
  refine ev_aload_n dX18_init_6 rfl ?_
  refine ev_putC [.ref ll, .ref th] dX18_init_7 gf_X18_7_X18 ha_2 hB (Or.inr ⟨rfl, rfl⟩) rfl rfl (Nat.le_of_ble_eq_true rfl) rfl (fun hp_5 ha_6 f7 => ?_)
  have F8 := (F4).write (Or.inl ⟨_, ha_6⟩) f7 hB (by simp)
  refine ev_aload_n dX18_init_10 rfl ?_
  refine ev_objInit dX18_init_11 q2226 q183 q184 (by omega) rfl ?_
  refine ev_return dX18_init_14 rfl ?_
  exact ⟨_, rfl, rfl, ha_6, F8⟩
set_option maxRecDepth 100000 in
set_option maxHeartbeats 4000000 in
theorem k_leaves8 {a : Nat} {l : List Nd} {I : HM} (hG : GKx g) (hI : Sub I h) (hN : NodeAt I 81 a l) (hln : l.length < 1000000) : Kc g mX8_leaves 6 3 9 [.ref a] h (rR (fun v h' => ∃ (it ll : Nat) (J : HM), v = some (.ref it) ∧ Gw I h J h' ∧ J it = some (.inr (14, [.ref ll, .ref a])) ∧ (∃ (L : List (Nat × Nat)) (mc : Int), WLh g J h [ll] h' ll mc L [l]) ∧ h ll = none ∧ Fr g h h' [])) := by
  refine Kc.of (ls := [some (.ref a), none]) (by decide +kernel) (Nat.le_of_ble_eq_true rfl) rfl ?_
  refine ev_newC (c' := 2) (k' := 5) [vz 0, vz 0, .null, .null] dX8_leaves_0 cf_J3 q2218 q230 q123 rfl (by omega) (by omega) (fun q1 hp_2 e3 B4 Hq1_5 f6 => ?_)
  have z7 := ((Fr.refl (g := g) _ [])).fresh e3
  have F8 := ((Fr.refl (g := g) _ [])).alloc (Or.inl ⟨_, Hq1_5⟩) f6 e3
  refine ev_dup dX8_leaves_3 rfl ?_
  refine ev_callVR dX8_leaves_4 ci_X8_63 ce_J3_init Hq1_5 rfl rfl rfl (ll_init Hq1_5 B4) (by omega) (by omega) (by omega) (Nat.le_of_ble_eq_true rfl) (fun v9 h2 P9 => ?_)
  obtain ⟨rfl, H2, F2⟩ := P9
  have G2 := (F8).call F2 (fun x hx => Or.inr (Or.inl (by rw [List.mem_singleton.mp hx]; exact z7)))
  refine ev_astore_n dX8_leaves_7 (by decide) rfl ?_
  dsimp only [List.set]
  refine ev_aload_n dX8_leaves_8 rfl ?_
  refine ev_aload_n dX8_leaves_9 rfl ?_
  refine ev_callVR dX8_leaves_10 cv_X8_64_J3 ce_J3_addFirst H2.1 rfl rfl rfl (ll_addFirst H2) (by omega) (by omega) (by omega) (Nat.le_of_ble_eq_true rfl) (fun v9 h3 P9 => ?_)
  obtain ⟨rfl, x3, z3, B3, H3, F3⟩ := P9
  have G3 := G2.call F3 (fun x hx => Or.inr (Or.inl (by rw [List.mem_singleton.mp hx]; exact z7)))
  refine ev_newC (c' := 0) (k' := 0) [.null, .null] dX8_leaves_13 cf_X18 q2221 q2222 q168 rfl (by omega) (by omega) (fun it h4 z4 B4 H4 f4 => ?_)
  have F4 := (Fr.refl (g := g) h3 []).alloc (Or.inl ⟨_, H4⟩) f4 z4
  have L4 := H3.fr F4 (fun x hx => by cases hx)
  have G4 := G3.call F4 nil_in
  refine ev_dup dX8_leaves_16 rfl ?_
  refine ev_aload_n dX8_leaves_17 rfl ?_
  refine ev_aload_n dX8_leaves_18 rfl ?_
  refine ev_callVR dX8_leaves_19 ci_X8_70 ce_X18_init H4 rfl rfl rfl (k_i18 H4 B4) (by omega) (by omega) (by omega) (Nat.le_of_ble_eq_true rfl) (fun v9 h5 P9 => ?_)
  obtain ⟨rfl, H5, F5⟩ := P9
  have zit : h it = none := G3.fresh z4
  have hne : q1 ≠ it := ne_no H3.1 z4
  have hnx : x3 ≠ it := Exists.elim (H3.2.2.1.mem (p := x3) List.mem_cons_self) (fun y9 e => Exists.elim e (fun n9 e => Exists.elim e (fun p9 e9 => ne_no e9 z4)))
  have L5 := L4.fr F5 (fun x hx => by rw [List.mem_singleton.mp hx]; exact ⟨hne.symm, fun q => hnx (List.mem_singleton.mp q).symm⟩)
  have G5 := G4.call F5 (fun x hx => Or.inr (Or.inl (by rw [List.mem_singleton.mp hx]; exact zit)))
  have GG := ((Gw.refl hI).fr0 G5).add hI H5 zit
  refine ev_areturn dX8_leaves_22 rfl (Or.inl ⟨_, rfl⟩) (Or.inr ⟨_, rfl⟩) ?_
  refine ⟨_, rfl, it, q1, hs I it _, rfl, GG, hs_same _ _ _, ⟨_, _, L5, GG.2.1, fun x hx => ?_, ⟨rfl, fun i q c hq hc => ?_⟩, by rw [hs_ne hne]; exact hI.none z7, List.mem_singleton_self _, G5.more (fun x hx => by cases hx)⟩, z7, G5⟩
  · rw [List.mem_singleton.mp hx]
    exact ⟨by rw [hs_ne hnx]; exact hI.none (G2.fresh z3), Or.inr (G2.fresh z3)⟩
  · cases i with
    | zero => cases hq; cases hc; exact ⟨hN.sub GG.1, hln⟩
    | succ i => simp at hq
def chB (x y : Nat) (ds : List Nat) : Nat := (ds.filter (fun u => decide (exN x y u ≠ u))).length
theorem chB_take {x y i u : Nat} {ds : List Nat} (h : ds[i]? = some u) : chB x y (ds.take (i + 1)) = chB x y (ds.take i) + (if exN x y u = u then 0 else 1) := by
  unfold chB
  rw [take_snoc h, List.filter_append, List.length_append]
  by_cases e : exN x y u = u
  · rw [if_pos e, List.filter_cons_of_neg (by simpa using e)]; rfl
  · rw [if_neg e, List.filter_cons_of_pos (by simpa using e)]; rfl
theorem chB_le (x y : Nat) (ds : List Nat) : chB x y ds ≤ ds.length := List.length_filter_le _ _
set_option maxRecDepth 100000 in
set_option maxHeartbeats 4000000 in
theorem k_changedBy {a da st nm x y : Nat} {n : Int} {N D : Nat → Int} {ds : List Nat} (hG : GKx g) (hnm : h nm = some (.inl (0, (8, .inl (fun j => zI (N j)))))) (ha : h a = some (.inr (9, [vz n, .ref da, .ref st]))) (hda : h da = some (.inl (0, (ds.length, .inl (fun j => zI (D j)))))) (hD : ∀ j u : Nat, ds[j]? = some u → D j = (u : Int)) (hds : ∀ u ∈ ds, u < 8) (hNm : ∀ e : Nat, e < 8 → N e = ((exN x y e : Nat) : Int)) (hl : ds.length < 1000000) (hx : x < 8) (hy : y < 8) : Kc g mX13_changedBy d (0) (0) [.ref a, .ref nm] h (sR (some (vz ((chB x y ds : Nat) : Int))) h) := by
  refine Kc.of (ls := [some (.ref a), some (.ref nm), none, none, none, none, none]) (by decide +kernel) (Nat.le_of_ble_eq_true rfl) rfl ?_
  refine ev_iconstZ dX13_changedBy_0 ?_
  refine ev_istore_n dX13_changedBy_1 (by decide) rfl ?_
  dsimp only [List.set]
  refine ev_aload_n dX13_changedBy_2 rfl ?_
  refine ev_getf dX13_changedBy_3 gf_X13_19_X13 ha rfl ?_
  refine ev_astore_n dX13_changedBy_6 (by decide) rfl ?_
  dsimp only [List.set]
  refine ev_aload_n dX13_changedBy_7 rfl ?_
  refine ev_alenZ dX13_changedBy_8 hda rfl ?_
  refine ev_istore dX13_changedBy_9 (by decide) rfl ?_
  dsimp only [List.set]
  refine ev_iconstZ dX13_changedBy_11 ?_
  refine ev_istore dX13_changedBy_12 (by decide) rfl ?_
  dsimp only [List.set]
  refine ev_for (st := []) ds.length (fun i h1 => h1 = h) (fun i => [some (.ref a), some (.ref nm), some (vz ((chB x y (ds.take i) : Nat) : Int)), some (.ref da), some (vz ((ds.length : Nat) : Int)), some (vz ((i : Nat) : Int)), none]) 0 (Nat.zero_le _) rfl ⟨rfl, rfl, rfl, rfl, rfl, rfl, trivial⟩ (fun i h1 _ hi eh hK => ?_) (fun h1 eh => ?_)
  · subst eh
    obtain ⟨u, hu⟩ : ∃ u, ds[i]? = some u := ⟨_, List.getElem?_eq_getElem hi⟩
    have hu8 := hds u (List.mem_of_getElem? hu)
    have hDx : D ((i : Nat) : Int).toNat = ((u : Nat) : Int) := by rw [Int.toNat_natCast]; exact hD i u hu
    have hNu : N ((u : Nat) : Int).toNat = ((exN x y u : Nat) : Int) := by rw [Int.toNat_natCast]; exact hNm u hu8
    have hen : exN x y u < 8 := exN_lt hx hy hu8
    refine ev_iload dX13_changedBy_14 rfl ?_
    refine ev_iload dX13_changedBy_16 rfl ?_
    refine ev_icmp_geZ (tgt := 50) dX13_changedBy_18 (by decide) (by omega) (by omega) (fun c18 => by omega) (fun c18 => ?_)
    refine ev_aload_n dX13_changedBy_21 rfl ?_
    refine ev_iload dX13_changedBy_22 rfl ?_
    refine ev_ialdY dX13_changedBy_24 hda (by omega) ?_
    rw [hDx]
    refine ev_istore dX13_changedBy_25 (by decide) rfl ?_
    dsimp only [List.set]
    refine ev_iload_n dX13_changedBy_27 rfl ?_
    refine ev_aload_n dX13_changedBy_28 rfl ?_
    refine ev_iload dX13_changedBy_29 rfl ?_
    refine ev_ialdY dX13_changedBy_31 hnm (by omega) ?_
    rw [hNu]
    refine ev_iload dX13_changedBy_32 rfl ?_
    refine ev_icmp_neZ (tgt := 41) dX13_changedBy_34 (by decide) (by omega) (by omega) (fun c34 => ?_) (fun c34 => ?_)
    · refine ev_iconstZ dX13_changedBy_41 ?_
      refine ev_iaddZ dX13_changedBy_42 ?_
      refine ev_istore_n dX13_changedBy_43 (by decide) rfl ?_
      dsimp only [List.set]
      refine ev_iincZ dX13_changedBy_44 rfl (by decide) rfl ?_
      dsimp only [List.set]
      refine ev_goto (tgt := 14) dX13_changedBy_47 (by decide) ?_
      refine hK _ _ ⟨rfl, rfl, vz_eq ?_, rfl, rfl, vz_eq (by omega), trivial⟩ rfl
      rw [chB_take hu]
      split <;> omega
    · refine ev_iconstZ dX13_changedBy_37 ?_
      refine ev_goto (tgt := 42) dX13_changedBy_38 (by decide) ?_
      refine ev_iaddZ dX13_changedBy_42 ?_
      refine ev_istore_n dX13_changedBy_43 (by decide) rfl ?_
      dsimp only [List.set]
      refine ev_iincZ dX13_changedBy_44 rfl (by decide) rfl ?_
      dsimp only [List.set]
      refine ev_goto (tgt := 14) dX13_changedBy_47 (by decide) ?_
      refine hK _ _ ⟨rfl, rfl, vz_eq ?_, rfl, rfl, vz_eq (by omega), trivial⟩ rfl
      rw [chB_take hu]
      split <;> omega
  · subst eh
    refine ev_iload dX13_changedBy_14 rfl ?_
    refine ev_iload dX13_changedBy_16 rfl ?_
    refine ev_icmp_geZ (tgt := 50) dX13_changedBy_18 (by decide) (by omega) (by omega) (fun c18 => ?_) (fun c18 => by omega)
    refine ev_iload_n dX13_changedBy_50 rfl ?_
    refine ev_ireturn dX13_changedBy_51 rfl ?_
    exact ⟨by rw [List.take_length], rfl⟩
end S5S

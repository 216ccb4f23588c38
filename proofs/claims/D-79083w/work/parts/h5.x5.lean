/-! THE COMPONENT: the class, leaves, tree (printed by gen) -/
section X5S
variable {g : GB} {M : MI} {d c k : Nat} {h : HM}
variable {N : Nat} {B : Nat → Prop} {o : Nat} {σ : Sp}
theorem fam_lv (κ : Nat) : fam_leaves κ = mX8_leaves := by
  unfold fam_leaves; split <;> rfl
theorem leavesN_eq (l : List Nd) : ∀ i : Nat, i ≤ l.length → leavesN l i = (leafL (l.take i)).length := by
  intro i
  induction i with
  | zero => intro _; rfl
  | succ i ih =>
    intro hi
    have e : l.take (i + 1) = l.take i ++ [l.getD i noNd] := by
      rw [List.take_succ, List.getElem?_eq_getElem (by omega), List.getD_eq_getElem?_getD, List.getElem?_eq_getElem (by omega)]; rfl
    rw [e, leafL_app, List.length_append, ← ih (by omega)]
    show leavesN l i + _ = leavesN l i + _
    generalize l.getD i noNd = u
    by_cases q : u.1 ≤ 2
    · rw [if_pos q]; simp [leafL, List.filter_cons, q]
    · rw [if_neg q]; simp [leafL, List.filter_cons, q]
theorem leavesN_all (l : List Nd) : leavesN l l.length = (leafL l).length := by rw [leavesN_eq l l.length (Nat.le_refl _), List.take_length]
theorem pot_lt : ∀ (n : Nat) (l : List Nd), TR n l → pot l + 1 ≤ l.length := by
  intro n
  induction n with
  | zero => intro l h; exact h.elim
  | succ n ih =>
    rintro l ⟨nd, cs, rfl, hc, -, hcs⟩
    have key : ∀ cs : List (List Nd), (∀ c ∈ cs, TR n c) → pot cs.flatten + cs.length ≤ cs.flatten.length := by
      intro cs
      induction cs with
      | nil => intro _; exact Nat.le_refl _
      | cons c cs ihc =>
        intro h
        have h1 := ih c (h c List.mem_cons_self)
        have h2 := ihc (fun c' q => h c' (List.mem_cons_of_mem _ q))
        rw [List.flatten_cons, pot_app, List.length_append, List.length_cons]
        omega
    have h1 := key cs hcs
    show (nd.2.2.1 - 1) + pot cs.flatten + 1 ≤ (nd :: cs.flatten).length
    rw [List.length_cons, hc]
    omega
theorem leafL_pos : ∀ (n : Nat) (l : List Nd), TR n l → 1 ≤ (leafL l).length := by
  intro n
  induction n with
  | zero => intro l h; exact h.elim
  | succ n ih =>
    rintro l ⟨nd, cs, rfl, hc, hk, hcs⟩
    by_cases q : nd.1 ≤ 2
    · simp [leafL, List.filter_cons, q]
    · cases cs with
      | nil => exact absurd (hk.mpr rfl) q
      | cons c cs =>
        have h1 := ih c (hcs c List.mem_cons_self)
        show 1 ≤ (leafL (nd :: (c :: cs).flatten)).length
        rw [show nd :: (c :: cs).flatten = [nd] ++ (c ++ cs.flatten) from rfl, leafL_app, leafL_app, List.length_append, List.length_append]; omega
theorem FOk.leaves {I : HM} : ∀ {as : List Nat} {ls : List (List Nd)}, FOk I as ls → ls.length ≤ (leafL ls.flatten).length := by
  intro as ls
  induction ls generalizing as with
  | nil => intro _; exact Nat.zero_le _
  | cons l ls ih =>
    intro H
    cases as with
    | nil => exact absurd H.1 (by simp)
    | cons a as =>
      have h1 := leafL_pos 81 l (H.2 0 a l rfl rfl).1.tree
      have h2 := ih (H.drop 1)
      rw [List.flatten_cons, leafL_app, List.length_append, List.length_cons]
      omega
theorem leafL_le (l : List Nd) : (leafL l).length ≤ l.length := List.length_filter_le _ _
set_option maxRecDepth 100000 in
set_option maxHeartbeats 4000000 in
theorem k_leafCountX1 (hG : GKx g) {I : HM} {l : List Nd} {pp a st fo sc ib os cl ud : Nat} {scv sdv lev x0 x1 x2 x3 : Value} (HO : h o = some (.inr (0, [.ref a, .ref cl, .ref ud, sdv, scv, .ref ib, .ref os, lev, x2, x3]))) (hBo : gB g ≤ o) (k1 : h a = some (.inr (1, [x0, x1, .ref st, .ref fo, .ref pp, .ref sc]))) (hSI : Sub I h) (hNp : NodeAt I 81 pp l) (hl9 : l.length < 1000000) (hd : 9 ≤ d) (hc : 1003 ≤ c) (hk : 3009 ≤ k) (hl8 : l.length ≤ 1000) : Kc g mX1_leafCount d (c) (k) [.ref o] h (rR (fun v h' => v = some (vz ((leavesN l l.length : Nat) : Int)) ∧ Fr g h h' [])) := by
  refine Kc.of (ls := [some (.ref o), none, none, none]) (by decide +kernel) (Nat.le_of_ble_eq_true rfl) rfl ?_
  have hpt := pot_lt 81 l hNp.tree
  refine ev_iconstZ dX1_leafCount_0 ?_
  refine ev_istore_n dX1_leafCount_1 (by decide) rfl ?_
  dsimp only [List.set]
  refine ev_aload_n dX1_leafCount_2 rfl ?_
  refine ev_getf dX1_leafCount_3 gf_X1_37_X1 HO rfl ?_
  refine ev_getf dX1_leafCount_6 gf_X1_121_X2 k1 rfl ?_
  refine ev_callNR dX1_leafCount_9 (nv_X1_252 hG) fe_leaves ((hNp.sub hSI).cls) rfl rfl (by rw [fam_lv]; exact k_leaves8 hG (hSI) hNp hl9) (by omega) (by omega) (by omega) (Nat.le_of_ble_eq_true rfl) (fun v1 h1 P1 => ?_)
  obtain ⟨it, ll, J, rfl, GJ, hit, ⟨L1, mc1, W1⟩, hll, F1⟩ := P1
  have HO_2 := F1.keep HO (fun q => by cases q)
  have k1_3 := F1.keep k1 (fun q => by cases q)
  have F4 := ((Fr.refl (g := g) _ [])).call F1 nil_in
  refine ev_astore_n dX1_leafCount_12 (by decide) rfl ?_
  dsimp only [List.set]
  refine ev_whileB (fun ls9 : List (List Nd) => (leafL ls9.flatten).length) (fun ls9 => pot ls9.flatten) (fun ls9 => 3 * pot ls9.flatten) (fun ls9 h1 => ∃ (L : List (Nat × Nat)) (mc : Int), WLh g J h [ll] h1 ll mc L ls9 ∧ (leafL ls9.flatten).length ≤ 1000) (fun ls9 => [some (.ref o), some (vz ((((leafL l).length : Nat) : Int) - (((leafL (ls9).flatten).length : Nat) : Int))), some (.ref it), none]) [l] ⟨L1, mc1, W1, by rw [List.flatten_singleton]; have := leafL_le l; omega⟩ (by show pot [l].flatten ≤ _; rw [List.flatten_singleton]; omega) (by show 3 * pot [l].flatten ≤ _; rw [List.flatten_singleton]; omega) ⟨rfl, vz_eq (by rw [List.flatten_singleton]; omega), rfl, trivial⟩ ?_
  intro ls9 h1 ⟨L, mc, W, hm9⟩ hK
  have hit1 := W.2.1 _ _ hit
  have hln := W.2.2.2.1.1
  rw [List.length_map] at hln
  have hlv := W.2.2.2.1.leaves
  have hlv2 := leafL_le l
  cases ls9 with
  | nil =>
    have hz : L.length = 0 := by simpa using hln
    refine ev_aload_n dX1_leafCount_13 rfl ?_
    refine ev_callVE dX1_leafCount_14 (cf_X1_256_X18 hG) ce_X18_hasNext hit1 rfl rfl rfl (k_hasNext18 (d := 0) hit W (by omega)) (by omega) (Nat.le_of_ble_eq_true rfl) ?_
    refine ev_if_eqZ (tgt := 38) dX1_leafCount_19 (by decide) (by rw [if_pos hz]; omega) (fun c19 => ?_) (fun c19 => absurd (if_pos hz) c19)
    refine ev_iload_n dX1_leafCount_38 rfl ?_
    refine ev_ireturn dX1_leafCount_39 rfl ?_
    have e9 : leavesN l l.length = (leafL l).length := leavesN_all l
    have F9 := W.2.2.2.2.2.2.more (S' := []) (fun x hx => Or.inr (Or.inl (by rw [List.mem_singleton.mp hx]; exact hll)))
    exact ⟨_, rfl, by rw [e9]; exact vz_eq (by simp [leafL]), F9⟩
  | cons c9 ls9 =>
    have hz : ¬ L.length = 0 := by rw [hln, List.length_cons]; omega
    obtain ⟨⟨n9, q9⟩, t9, rfl⟩ : ∃ (x : Nat × Nat) (t : List (Nat × Nat)), L = x :: t := by
      cases L with
      | nil => exact absurd rfl hz
      | cons x t => exact ⟨x, t, rfl⟩
    obtain ⟨nd, ls0, k1, g1, g2, g3, g4, kN⟩ := k_next2 hG hit W
    have hC : pot (c9 :: ls9).flatten = pot (c9 :: ls9).flatten := rfl
    refine ev_aload_n dX1_leafCount_13 rfl ?_
    refine ev_callVE dX1_leafCount_14 (cf_X1_256_X18 hG) ce_X18_hasNext hit1 rfl rfl rfl (k_hasNext18 (d := 0) hit W (by omega)) (by omega) (Nat.le_of_ble_eq_true rfl) ?_
    refine ev_if_eqZ (tgt := 38) dX1_leafCount_19 (by decide) (by rw [if_neg hz]; omega) (fun c19 => absurd c19 (by rw [if_neg hz]; decide)) (fun c19 => ?_)
    refine ev_aload_n dX1_leafCount_22 rfl ?_
    refine ev_callVR dX1_leafCount_23 (cf_X1_262_X18 hG) ce_X18_next hit1 rfl rfl rfl (k_next18 hG hit1 (kN _ _ 6 (Nat.le_refl _) (Nat.le_refl _) (by omega)) (Nat.le_refl 7)) (by omega) (by omega) (by omega) (Nat.le_of_ble_eq_true rfl) (fun v9 h2 P9 => ?_)
    obtain ⟨r, L', mc', rfl, hnd, W'⟩ := P9
    obtain ⟨as9, hnd9⟩ := hnd
    refine ev_castN (κ := nd.1) dX1_leafCount_28 q2286 ((hnd9.sub W'.2.1).cls) ?_
    refine ev_astore_n dX1_leafCount_31 (by decide) rfl ?_
    dsimp only [List.set]
    refine ev_iincZ dX1_leafCount_32 rfl (by decide) rfl ?_
    dsimp only [List.set]
    refine ev_goto (tgt := 13) dX1_leafCount_35 (by decide) ?_
    refine hK (ls0 ++ ls9) _ _ _ _ ?_ ?_ ?_ ⟨rfl, vz_eq ?_, rfl, trivial⟩ ⟨L', mc', W', by rw [g2, List.length_cons] at hm9; omega⟩
    · show (leafL _).length < (leafL _).length; rw [g2]; exact Nat.lt_succ_self _
    · show pot _ ≤ _; omega
    · show 3 * pot _ ≤ _; omega
    · rw [g2, List.length_cons]; omega
set_option maxRecDepth 100000 in
set_option maxHeartbeats 4000000 in
theorem kx_tree (hG : GKx g) (K0 : KC g h) (W : WX g N B h o σ) (hO : spOk σ) {x : Int} (hr1 : inR x) (hL : dnLn σ.1) (hd : 520 ≤ d) (hc : 1003 ≤ c) (hk : 3009 ≤ k) : Kc g mX1_tree d c k [.ref o, vz x] h (XQ g N B h o (fun m : Int => if m = 1 then "java/lang/IllegalArgumentException" else "java/lang/IllegalStateException") (opTree σ x)) := by
  refine Kc.of (ls := [some (.ref o), some (vz x)]) (by decide +kernel) (Nat.le_of_ble_eq_true rfl) rfl ?_
  obtain ⟨I, own, ⟨pid, a, st, fo⟩, us, cl, ud, uv, uh, ib, iv, ic, os, ow, sdv, scv, lev, cs, HO, WR⟩ := id W
  have HO : h o = some (.inr (0, [.ref a, .ref cl, .ref ud, sdv, scv, .ref ib, .ref os, lev, vz σ.2.2.2.2.2.1, vz σ.2.2.2.2.1])) := HO
  obtain ⟨⟨hBo, ho1, hIo⟩, ⟨hSI, hCI, hBB⟩, KD, KCs, KU, KN, KS, KI, KOu, KE⟩ := id WR
  have H : DnC g I h a st fo σ.1 := KD.1
  have dO := hO.1
  obtain ⟨A, Bf, pv, sv, KDA, hA, hB9, hV⟩ := id H
  obtain ⟨k1, k2, k3, k4, k5, k6, k7, k8⟩ := id KDA
  unfold opTree
  by_cases c9 : 0 ≤ x ∧ x ≤ 4
  · rw [if_pos c9]
    cases hp9 : σ.1.2.2.2 with
    | none =>
      rw [withP_none hp9]
      refine ev_iload_n dX1_tree_0 rfl ?_
      refine ev_i2l dX1_tree_1 ?_
      refine ev_lconst0 dX1_tree_2 ?_
      refine ev_ldc2 (v := 4) dX1_tree_3 q2281 ?_
      refine ev_callSE dX1_tree_6 cs_X1_108 ce_X1_inRange rfl rfl (k_inRange (d := 0) (a := x) (lo := 0) (hi := 4) (by omega)) (by omega) (Nat.le_of_ble_eq_true rfl) ?_
      refine ev_callSN dX1_tree_9 cs_X1_133 ce_X1_checkArgument rfl rfl (k_checkArgumentT (d := 0) (decide_eq_true c9)) (by omega) (Nat.le_of_ble_eq_true rfl) ?_
      refine ev_aload_n dX1_tree_12 rfl ?_
      refine ev_callV dX1_tree_13 cv_X1_209_X1 ce_X1_checkPiece HO rfl rfl rfl (k_checkPieceF H HO hBo hG hp9) (by omega) (by omega) (by omega) (Nat.le_of_ble_eq_true rfl) (fun v h2 q => ?_) (fun E q h2 r => ?_)
      · obtain ⟨q9, e9, -⟩ := q; cases e9
      · obtain ⟨q9, e9, e8, e7⟩ := r
        cases e9
        exact evx_out rfl (XQ.no (by decide) rfl ⟨I, own, (pid, a, st, fo), us, cl, ud, uv, uh, ib, iv, ic, os, ow, sdv, scv, lev, cs, e8, WR.self e7⟩ e7 (fun x hx => by rw [List.mem_singleton.mp hx]; exact WR.nB))
    | some l =>
      rw [withP_some hp9]
      rw [hp9] at hV
      obtain ⟨pp, sc, ss, cu, ru, rfl, rfl, hN, SA, SB, ⟨s1, s2, s3, s4, s5, s6, s7⟩, hSA, hSB⟩ := hV
      have pf := pf_dn dO hp9
      replace s1 := hSI _ _ s1
      replace s2 := hSI _ _ s2
      have hcn := (hN.sub hSI).cls
      have hl9 := hL l hp9
      have hIh := hSI
      refine ev_iload_n dX1_tree_0 rfl ?_
      refine ev_i2l dX1_tree_1 ?_
      refine ev_lconst0 dX1_tree_2 ?_
      refine ev_ldc2 (v := 4) dX1_tree_3 q2281 ?_
      refine ev_callSE dX1_tree_6 cs_X1_108 ce_X1_inRange rfl rfl (k_inRange (d := 0) (a := x) (lo := 0) (hi := 4) (by omega)) (by omega) (Nat.le_of_ble_eq_true rfl) ?_
      refine ev_callSN dX1_tree_9 cs_X1_133 ce_X1_checkArgument rfl rfl (k_checkArgumentT (d := 0) (decide_eq_true c9)) (by omega) (Nat.le_of_ble_eq_true rfl) ?_
      refine ev_aload_n dX1_tree_12 rfl ?_
      refine ev_callVN dX1_tree_13 cv_X1_209_X1 ce_X1_checkPiece HO rfl rfl rfl (k_checkPieceT (d := 0) H HO hBo hp9) (by omega) (Nat.le_of_ble_eq_true rfl) ?_
      refine ev_iload_n dX1_tree_16 rfl ?_
      have hx : x = 0 ∨ x = 1 ∨ x = 2 ∨ x = 3 ∨ x = 4 := by omega
      rcases hx with rfl | rfl | rfl | rfl | rfl
      · refine ev_tableIn (tgt := 48) dX1_tree_17 (by decide) (by decide) rfl (by decide) ?_
        refine ev_aload_n dX1_tree_48 rfl ?_
        refine ev_getf dX1_tree_49 gf_X1_37_X1 HO rfl ?_
        refine ev_getf dX1_tree_52 gf_X1_121_X2 k1 rfl ?_
        refine ev_callNE dX1_tree_55 (nv_X1_226 hG) fe_nodes (hcn) rfl rfl (n_nodes hG 81 pp l (hN.sub hSI) (by omega)) (by omega) (Nat.le_of_ble_eq_true rfl) ?_
        refine ev_ireturn dX1_tree_58 rfl ?_
        exact XQ.ok W (Fr.refl _ []) nil_B
      · refine ev_tableIn (tgt := 59) dX1_tree_17 (by decide) (by decide) rfl (by decide) ?_
        refine ev_aload_n dX1_tree_59 rfl ?_
        refine ev_getf dX1_tree_60 gf_X1_37_X1 HO rfl ?_
        refine ev_getf dX1_tree_63 gf_X1_121_X2 k1 rfl ?_
        refine ev_callNE dX1_tree_66 (nv_X1_223 hG) fe_depth (hcn) rfl rfl (n_depth hG 81 pp l (hN.sub hSI) (by omega) (by omega)) (by omega) (Nat.le_of_ble_eq_true rfl) ?_
        refine ev_ireturn dX1_tree_69 rfl ?_
        rw [pf.2.2.2.1.2.2.1]
        exact XQ.ok W (Fr.refl _ []) nil_B
      · refine ev_tableIn (tgt := 70) dX1_tree_17 (by decide) (by decide) rfl (by decide) ?_
        refine ev_aload_n dX1_tree_70 rfl ?_
        refine ev_callVR dX1_tree_71 cv_X1_277_X1 ce_X1_leafCount HO rfl rfl rfl (k_leafCountX1 (d := 9) (c := 1003) (k := 3009) hG HO hBo k1 hSI hN (by omega) (Nat.le_refl _) (Nat.le_refl _) (Nat.le_refl _) (by omega)) (by omega) (by omega) (by omega) (Nat.le_of_ble_eq_true rfl) (fun v1 hp_1 P1 => ?_)
        obtain ⟨rfl, F1⟩ := P1
        have HO_2 := F1.keep HO (fun q => by cases q)
        have k1_3 := F1.keep k1 (fun q => by cases q)
        have s1_4 := F1.keep s1 (fun q => by cases q)
        have F5 := ((Fr.refl (g := g) _ [])).call F1 nil_in
        refine ev_ireturn dX1_tree_74 rfl ?_
        exact WX.newQ W F5
      · refine ev_tableIn (tgt := 75) dX1_tree_17 (by decide) (by decide) rfl (by decide) ?_
        refine ev_aload_n dX1_tree_75 rfl ?_
        refine ev_getf dX1_tree_76 gf_X1_37_X1 HO rfl ?_
        refine ev_getf dX1_tree_79 gf_X1_280_X2 k1 rfl ?_
        refine ev_getf dX1_tree_82 gf_X1_284_X5 s1 rfl ?_
        refine ev_ireturn dX1_tree_85 rfl ?_
        exact XQ.ok W (Fr.refl _ []) nil_B
      · refine ev_tableOut (tgt := 86) dX1_tree_17 (by decide) (by decide) ?_
        refine ev_aload_n dX1_tree_86 rfl ?_
        refine ev_getf dX1_tree_87 gf_X1_37_X1 HO rfl ?_
        refine ev_getf dX1_tree_90 gf_X1_121_X2 k1 rfl ?_
        refine ev_callNE dX1_tree_93 (nv_X1_288 hG) fe_used (hcn) rfl rfl (n_used hG 81 pp l (hN.sub hSI) (by omega) pf.2.1.2) (by omega) (Nat.le_of_ble_eq_true rfl) ?_
        refine ev_ireturn dX1_tree_96 rfl ?_
        rw [pf.2.2.2.1.1]
        exact XQ.ok W (Fr.refl _ []) nil_B
  · rw [if_neg c9]
    refine ev_iload_n dX1_tree_0 rfl ?_
    refine ev_i2l dX1_tree_1 ?_
    refine ev_lconst0 dX1_tree_2 ?_
    refine ev_ldc2 (v := 4) dX1_tree_3 q2281 ?_
    refine ev_callSE dX1_tree_6 cs_X1_108 ce_X1_inRange rfl rfl (k_inRange (d := 0) (a := x) (lo := 0) (hi := 4) (by omega)) (by omega) (Nat.le_of_ble_eq_true rfl) ?_
    refine ev_callS dX1_tree_9 cs_X1_133 ce_X1_checkArgument rfl rfl (k_checkArgumentF hG (decide_eq_false c9)) (by omega) (by omega) (by omega) (Nat.le_of_ble_eq_true rfl) (fun v h2 q => ?_) (fun E q h2 r => ?_)
    · obtain ⟨q9, e9, -⟩ := q; cases e9
    · obtain ⟨q9, e9, rfl⟩ := r
      cases e9
      exact evx_out rfl (XQ.no (by decide) rfl W (Fr.refl _ []) nil_B)
end X5S

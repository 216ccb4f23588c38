/-! THE COMPONENT: the class, plan (printed by gen) -/
section Z2S
variable {g : GB} {M : MI} {d c k : Nat} {h : HM}
variable {N : Nat} {B : Nat → Prop} {o : Nat} {σ : Sp}
theorem plN_nd {D : Dn} {Q : Pt} {fm : Nat} : ∀ (n : Nat) (L : PL) (ys : List (Nat × List Nat)), plN D Q fm n = some (L, ys) → (∀ y ∈ ys, y.1 < n) ∧ (ys.map (fun y => y.1)).Nodup := by
  intro n
  induction n with
  | zero => intro L ys h; cases h; exact ⟨(fun y hy => by cases hy), List.nodup_nil⟩
  | succ n ih =>
    intro L ys h
    cases hx : plN D Q fm n with
    | none => rw [plN_none hx (n + 1) (by omega)] at h; cases h
    | some x =>
      obtain ⟨h1, h2⟩ := ih x.1 x.2 hx
      rw [plN_s hx] at h
      by_cases c : tkB D n = true ∧ D.2.2.1 fm n ≠ -1
      · cases he : enP D.1.1 D.1.2 x.1 (dnE D Q n) (D.2.2.1 fm n).toNat with
        | none => rw [plS_none c he] at h; cases h
        | some last =>
          rw [plS_some c he] at h
          cases h
          split
          · rw [List.append_nil]; exact ⟨fun y hy => by have := h1 y hy; omega, h2⟩
          · refine ⟨fun y hy => ?_, ?_⟩
            · rcases List.mem_append.mp hy with q | q
              · have := h1 y q; omega
              · rw [List.mem_singleton.mp q]; exact Nat.lt_succ_self n
            · rw [List.map_append]
              refine List.nodup_append.mpr ⟨h2, by simp, fun a ha b hb e => ?_⟩
              obtain ⟨y, hy, rfl⟩ := List.mem_map.mp ha
              have := h1 y hy
              simp at hb
              omega
      · rw [plS_no c] at h
        cases h
        exact ⟨fun y hy => by have := h1 y hy; omega, h2⟩
theorem ys_ok {D : Dn} {Q : Pt} {fm : Nat} {L : PL} {ys : List (Nat × List Nat)} (hE : endOk D Q) (hC : 0 < D.1.1) (h : plN D Q fm 8 = some (L, ys)) (h1 : ys.length ≠ 0) : ysOk ys := by
  obtain ⟨a1, a2, a3⟩ := plN_ok hE hC 8 L ys (Nat.le_refl _) h
  exact ⟨by omega, a2, a3, (plN_nd 8 L ys h).2⟩
theorem tidy_phR (y : Nat × List Nat) : tidy (phR y) = [plD y] := rfl
theorem phR_flat (ys : List (Nat × List Nat)) : ((ys.map phR).map tidy).flatten = ys.map plD := by
  induction ys with
  | nil => rfl
  | cons y ys ih => rw [List.map_cons, List.map_cons, List.flatten_cons, ih]; rfl
/-- the plan's layer as a node -/
theorem lay_node {I J h1 h2 : HM} {pl v2 c1 n r : Nat} {mc : Int} {rs : List Nat} {ys : List (Nat × List Nat)} (hI : Sub I h) (G : Gw I h J h1) (F1 : Fr g h h1 []) (LA : ALh g h1 pl v2 c1 mc rs) (R : RowsAt J n rs (ys.map phR)) (hpl : h pl = none) (hv2 : v2 < gB g ∨ (h v2 = none ∧ J v2 = none)) (hl : rs.length < 1000) (h1r : 1 ≤ rs.length) (hlow : g.2.2.2.2 48 < gB g) (hr : (rs = [r] ∧ h2 = h1) ∨ (rs.length ≠ 1 ∧ h1 r = none ∧ gB g ≤ r ∧ h2 r = some (.inr (12, [vz (bI true), .ref pl])))) (F2 : Fr g h1 h2 []) : ∃ (J2 : HM) (n2 : Nat), Gw I h J2 h2 ∧ Sub J J2 ∧ NodeAt J2 n2 r (layY ys) := by
  rcases hr with ⟨rfl, rfl⟩ | ⟨hn1, zr, Br, hr⟩
  · have h1y : ys.length = 1 := by have := R.1; rw [List.length_map] at this; exact this.symm
    obtain ⟨y, rfl, e⟩ := layY_one h1y
    refine ⟨J, n, G, Sub.refl J, ?_⟩
    rw [e]
    exact R.2 0 r (phR y) rfl rfl
  · have hly : ys.length ≠ 1 := by have := R.1; rw [List.length_map] at this; omega
    obtain ⟨fq, a3, a4⟩ := id LA.2.2.1
    have hv0 : h v2 = none := by
      rcases hv2 with e | e
      · rcases LA.2.2.2.2.2.2 with ⟨-, q⟩ | ⟨-, q⟩
        · have := LA.2.2.2.2.1; omega
        · omega
      · exact e.1
    have G1 := (G.fr0 F2).add hI (F2.keep LA.1 (fun q => by cases q)) hpl
    have s1 := (G.fr0 F2).subadd (F2.keep LA.1 (fun q => by cases q))
    have G2 := G1.add hI (F2.keep a3 (fun q => by cases q)) hv0 (LA.cap (by omega))
    have s2 := G1.subadd (F2.keep a3 (fun q => by cases q))
    have zr0 : h r = none := F1.fresh zr
    have G3 := G2.add hI hr zr0
    have s3 := G2.subadd hr
    refine ⟨_, n + 1, G3, fun x y hx => s3 _ _ (s2 _ _ (s1 _ _ hx)), ?_⟩
    have hN := NodeAt.sev (k := 6) R (fun x y hx => s3 _ _ (s2 _ _ (s1 _ _ hx))) (Or.inl rfl) (fun q => by rw [q] at h1r; exact absurd h1r (by decide)) ⟨pl, v2, c1, mc, fq, hs_same _ _ _, s3 _ _ (s2 _ _ (hs_same _ _ _)), s3 _ _ (hs_same _ _ _), a4, LA.2.2.2.2.1⟩
    rw [List.length_map, phR_flat] at hN
    unfold layY
    rw [if_neg hly]
    exact hN
/-- length() of a node whose parts are all right, by its parts -/
theorem n_lenS {a : Nat} {nd : Nd} {cs : List (List Nd)} (hG : GKx g) (hN : NodeAt h 82 a (nd :: cs.flatten)) (hc : nd.2.2.1 = cs.length) (hT : ∀ c ∈ cs, TR 81 c) (hk : ∀ c ∈ cs, ∃ P : Pt, sem c = .ok P) (hl : (nd :: cs.flatten).length < 1000000) (hok : ∀ x ∈ nd :: cs.flatten, ndOk2 x) {m : Nat} (hm : lenA nd (cs.map lenV) = m) : Kc g (fam_length (rootK (nd :: cs.flatten))) 410 0 0 [.ref a] h (sR (some (vz ((m : Nat) : Int))) h) := by
  obtain ⟨nd', cs', as, e, e2, e3, e4, e5, e6⟩ := hN
  injection e with e0 e1
  subst e0
  have hT' : ∀ c ∈ cs', TR 81 c := fun c hc => by
    obtain ⟨i, hi⟩ := List.getElem?_of_mem hc
    have hl2 := lt_of_getE hi
    exact (e6 i _ c hi (List.getElem?_eq_getElem (by omega : i < as.length))).tree
  have e9 := forest_inj hT hT' e1
  subst e9
  have h1 := n_lenC (n := 81) hG e2 e4 e5 e6 hl hok hk
  rw [hm] at h1
  exact h1
set_option maxRecDepth 100000 in
set_option maxHeartbeats 4000000 in
theorem kx_plan (hG : GKx g) (K0 : KC g h) (W : WX g N B h o σ) (hO : spOk σ) {x : Int} (hr1 : inR x) (hL : dnLn σ.1) (hd : 530 ≤ d) (hc : 16000 ≤ c) (hk : 140000 ≤ k) : Kc g mX1_plan d c k [.ref o, vz x] h (XQ g (N + 1) B h o (fun m : Int => if m = 1 then "java/lang/IndexOutOfBoundsException" else "java/lang/IllegalStateException") (opPlan σ x)) := by
  refine Kc.of (ls := [some (.ref o), some (vz x), none, none, none, none]) (by decide +kernel) (Nat.le_of_ble_eq_true rfl) rfl ?_
  obtain ⟨I, own, ⟨pid, a, st, fo⟩, us, cl, ud, uv, uh, ib, iv, ic, os, ow, sdv, scv, lev, cs, HO, WR⟩ := id W
  have HO : h o = some (.inr (0, [.ref a, .ref cl, .ref ud, sdv, scv, .ref ib, .ref os, lev, vz σ.2.2.2.2.2.1, vz σ.2.2.2.2.1])) := HO
  obtain ⟨⟨hBo, ho1, hIo⟩, ⟨hSI, hCI, hBB⟩, KD, KCs, KU, KN, KS, KI, KOu, KE⟩ := id WR
  have H : DnC g I h a st fo σ.1 := KD.1
  have dO := hO.1
  obtain ⟨A, Bf, pv, sv, KDA, hA, hB9, hV⟩ := id H
  obtain ⟨k1, k2, k3, k4, k5, k6, k7, k8⟩ := id KDA
  unfold opPlan
  have WR0 := WR
  have HO0 := HO
  by_cases c9 : 0 ≤ x ∧ x ≤ 3
  · rw [if_pos c9]
    cases hp9 : σ.1.2.2.2 with
    | none =>
      rw [withP_none hp9]
      refine ev_iload_n dX1_plan_0 rfl ?_
      refine ev_callSN dX1_plan_1 cs_X1_341 ce_X1_checkFormation rfl rfl (k_checkFormationT (d := 0) hr1 c9) (by omega) (Nat.le_of_ble_eq_true rfl) ?_
      refine ev_aload_n dX1_plan_4 rfl ?_
      refine ev_callV dX1_plan_5 cv_X1_209_X1 ce_X1_checkPiece HO rfl rfl rfl (k_checkPieceF H HO hBo hG hp9) (by omega) (by omega) (by omega) (Nat.le_of_ble_eq_true rfl) (fun v h2 q => ?_) (fun E q h2 r => ?_)
      · obtain ⟨q9, e9, -⟩ := q; cases e9
      · obtain ⟨q9, e9, e8, e7⟩ := r
        cases e9
        have W9 : WX g N B h2 o (wReason σ 3) := ⟨I, own, (pid, a, st, fo), us, cl, ud, uv, uh, ib, iv, ic, os, ow, sdv, scv, lev, cs, e8, WR.self e7⟩
        exact evx_out rfl (XQ.no (by decide) rfl (W9.le (Nat.le_succ N)) e7 (fun x hx => by rw [List.mem_singleton.mp hx]; exact WR.nB))
    | some l =>
      rw [withP_some hp9]
      rw [hp9] at hV
      obtain ⟨pp, sc, ss, cu, ru, rfl, rfl, hN, SA, SB, ⟨s1, s2, s3, s4, s5, s6, s7⟩, hSA, hSB⟩ := hV
      have pf := pf_dn dO hp9
      replace s1 := hSI _ _ s1
      replace s2 := hSI _ _ s2
      have hcn := (hN.sub hSI).cls
      obtain ⟨f, rfl⟩ := toB x c9.1
      have hf : f < 4 := by omega
      have hl9 := hL l hp9
      have h99l := pf.2.2.1
      have hlow : g.2.2.2.2 48 < gB g := K0.1.2
      rw [Int.toNat_natCast]
      have hdi1 := dO.1
      have hkp := kP_72 (D := σ.1) pf.2.2.1
      have hPr := k_problems (d := 411) (c := 6 + 2 * (srK σ.1 (mean l) 0 ((mean l).1.1 + 1)).length) (k := 41 + kP (srK σ.1 (mean l) 0 ((mean l).1.1 + 1)).length) hG K0 hSI H hp9 rfl dO (by have := hL l hp9; omega) (Nat.le_refl _) (Nat.le_refl _) (Nat.le_refl _)
      by_cases hp0 : (srK σ.1 (mean l) 0 ((mean l).1.1 + 1)).length ≠ 0
      · rw [if_pos (show (prL σ.1 (mean l) 0).length ≠ 0 from hp0)]
        refine ev_iload_n dX1_plan_0 rfl ?_
        refine ev_callSN dX1_plan_1 cs_X1_341 ce_X1_checkFormation rfl rfl (k_checkFormationT (d := 0) hr1 c9) (by omega) (Nat.le_of_ble_eq_true rfl) ?_
        refine ev_aload_n dX1_plan_4 rfl ?_
        refine ev_callVN dX1_plan_5 cv_X1_209_X1 ce_X1_checkPiece HO rfl rfl rfl (k_checkPieceT (d := 0) H HO hBo hp9) (by omega) (Nat.le_of_ble_eq_true rfl) ?_
        refine ev_aload_n dX1_plan_8 rfl ?_
        refine ev_aload_n dX1_plan_9 rfl ?_
        refine ev_getf dX1_plan_10 gf_X1_37_X1 HO rfl ?_
        refine ev_callVR dX1_plan_13 cv_X1_302_X2 ce_X2_problems k1 rfl rfl rfl hPr (by omega) (by omega) (by omega) (Nat.le_of_ble_eq_true rfl) (fun v9 h1 P9 => ?_)
        obtain ⟨pr, X, rfl, ⟨v, rs0, LA0, hrl, hrc, -, -⟩, F1⟩ := P9
        have LA1 := LA0.1
        rw [hrl] at LA1
        have HO1 := F1.keep HO (fun q => by cases q)
        have k1a := F1.keep k1 (fun q => by cases q)
        have WR1 := WXr.new WR F1
        refine ev_callVE dX1_plan_16 cv_X1_359_J26 ce_J26_isEmpty LA1 rfl rfl rfl (al_isEmpty LA1 (by omega)) (by omega) (Nat.le_of_ble_eq_true rfl) ?_
        rw [if_neg (by omega)]
        refine ev_iconstZ dX1_plan_19 ?_
        refine ev_callV dX1_plan_20 cv_X1_125_X1 ce_X1_checkReason HO1 rfl rfl rfl (k_checkReasonF HO1 hBo (y := 4) (b := false) hG rfl) (by omega) (by omega) (by omega) (Nat.le_of_ble_eq_true rfl) (fun v h2 q => ?_) (fun E q h2 r9 => ?_)
        · obtain ⟨q9, e9, -⟩ := q; cases e9
        · obtain ⟨q9, e9, e8, e7⟩ := r9
          cases e9
          have W9 : WX g N B h2 o (wReason σ 4) := ⟨_, own, _, us, cl, ud, uv, uh, ib, iv, ic, os, ow, _, _, lev, cs, e8, WXr.self WR1 e7⟩
          exact evx_out rfl (XQ.no (by decide) rfl (W9.le (Nat.le_succ N)) ((F1.more (S' := [o]) (fun x hx => by cases hx)).call e7 (fun x hx => Or.inl hx)) (fun x hx => by rw [List.mem_singleton.mp hx]; exact WR.nB))
      · rw [if_neg (show ¬ (prL σ.1 (mean l) 0).length ≠ 0 from hp0)]
        have hE : endOk σ.1 (mean l) := noPr_end (List.length_eq_zero_iff.mp (Classical.not_not.mp hp0)) dO.1
        refine ev_iload_n dX1_plan_0 rfl ?_
        refine ev_callSN dX1_plan_1 cs_X1_341 ce_X1_checkFormation rfl rfl (k_checkFormationT (d := 0) hr1 c9) (by omega) (Nat.le_of_ble_eq_true rfl) ?_
        refine ev_aload_n dX1_plan_4 rfl ?_
        refine ev_callVN dX1_plan_5 cv_X1_209_X1 ce_X1_checkPiece HO rfl rfl rfl (k_checkPieceT (d := 0) H HO hBo hp9) (by omega) (Nat.le_of_ble_eq_true rfl) ?_
        refine ev_aload_n dX1_plan_8 rfl ?_
        refine ev_aload_n dX1_plan_9 rfl ?_
        refine ev_getf dX1_plan_10 gf_X1_37_X1 HO rfl ?_
        refine ev_callVR dX1_plan_13 cv_X1_302_X2 ce_X2_problems k1 rfl rfl rfl hPr (by omega) (by omega) (by omega) (Nat.le_of_ble_eq_true rfl) (fun v9 h1 P9 => ?_)
        obtain ⟨pr, X, rfl, ⟨v, rs0, LA0, hrl, hrc, -, -⟩, F1⟩ := P9
        have LA1 := LA0.1
        rw [hrl] at LA1
        have HO1 := F1.keep HO (fun q => by cases q)
        have k1a := F1.keep k1 (fun q => by cases q)
        have WR1 := WXr.new WR F1
        refine ev_callVE dX1_plan_16 cv_X1_359_J26 ce_J26_isEmpty LA1 rfl rfl rfl (al_isEmpty LA1 (by omega)) (by omega) (Nat.le_of_ble_eq_true rfl) ?_
        rw [if_pos (by omega)]
        refine ev_iconstZ dX1_plan_19 ?_
        refine ev_callVN dX1_plan_20 cv_X1_125_X1 ce_X1_checkReason HO1 rfl rfl rfl (k_checkReasonT (d := 0) HO1 hBo (y := 4) (b := true) rfl) (by omega) (Nat.le_of_ble_eq_true rfl) ?_
        refine ev_aload_n dX1_plan_23 rfl ?_
        refine ev_getf dX1_plan_24 gf_X1_37_X1 HO1 rfl ?_
        refine ev_iload_n dX1_plan_27 rfl ?_
        refine ev_callVR dX1_plan_28 cv_X1_362_X2 ce_X2_plan k1a rfl rfl rfl (k_planX2 hG (K0.fr F1) (hSI.fr0 F1) (H.fr F1 (fun x hx => by cases hx)) ⟨dO.1, dO.2.1⟩ ⟨dO.2.2.1, dO.2.2.2.1⟩ hp9 rfl dO hE pf.2.2.1 pf.2.2.2.2.2.2.2 hf (Nat.le_refl 14) (Nat.le_refl 660) (Nat.le_refl 35500)) (by omega) (by omega) (by omega) (Nat.le_of_ble_eq_true rfl) (fun v8 h2 P8 => ?_)
        obtain ⟨P8, F2⟩ := P8
        have F12 := F1.call F2 nil_in
        have HO2 := F12.keep HO (fun q => by cases q)
        have WR2 := WXr.new WR F12
        have k1b := F12.keep k1 (fun q => by cases q)
        rcases P8 with ⟨hn, rfl⟩ | ⟨L8, ys, J, n8, rs, pl, v2, c1, mc, hn, rfl, LA, R8, G, hJpl, hpl1, hv2⟩
        · rw [hn]
          dsimp only
          refine ev_astore_nN dX1_plan_31 (by decide) rfl ?_
          dsimp only [List.set]
          refine ev_aload_n dX1_plan_32 rfl ?_
          refine ev_aload_nN dX1_plan_33 rfl ?_
          refine ev_ifnullN (tgt := 41) dX1_plan_34 (by decide) ?_
          refine ev_iconstZ dX1_plan_41 ?_
          refine ev_iconstZ dX1_plan_42 ?_
          refine ev_callV dX1_plan_43 cv_X1_125_X1 ce_X1_checkReason HO2 rfl rfl rfl (k_checkReasonF HO2 hBo (y := 5) (b := false) hG rfl) (by omega) (by omega) (by omega) (Nat.le_of_ble_eq_true rfl) (fun v h2 q => ?_) (fun E q h2 r9 => ?_)
          · obtain ⟨q9, e9, -⟩ := q; cases e9
          · obtain ⟨q9, e9, e8, e7⟩ := r9
            cases e9
            have W9 : WX g N B h2 o (wReason σ 5) := ⟨_, own, _, us, cl, ud, uv, uh, ib, iv, ic, os, ow, _, _, lev, cs, e8, WXr.self WR2 e7⟩
            exact evx_out rfl (XQ.no (by decide) rfl (W9.le (Nat.le_succ N)) ((F12.more (S' := [o]) (fun x hx => by cases hx)).call e7 (fun x hx => Or.inl hx)) (fun x hx => by rw [List.mem_singleton.mp hx]; exact WR.nB))
        · rw [hn]
          dsimp only
          have hrl9 : rs.length = ys.length := by have := R8.1; rwa [List.length_map] at this
          have hy8 : ys.length ≤ 8 := (plN_ok hE (by omega) 8 L8 ys (Nat.le_refl _) hn).2.1
          by_cases hy0 : ys.length = 0
          · rw [if_pos hy0]
            refine ev_astore_n dX1_plan_31 (by decide) rfl ?_
            dsimp only [List.set]
            refine ev_aload_n dX1_plan_32 rfl ?_
            refine ev_aload_n dX1_plan_33 rfl ?_
            refine ev_ifnull dX1_plan_34 ?_
            refine ev_iconstZ dX1_plan_37 ?_
            refine ev_goto (tgt := 42) dX1_plan_38 (by decide) ?_
            refine ev_iconstZ dX1_plan_42 ?_
            refine ev_callVN dX1_plan_43 cv_X1_125_X1 ce_X1_checkReason HO2 rfl rfl rfl (k_checkReasonT (d := 0) HO2 hBo (y := 5) (b := true) rfl) (by omega) (Nat.le_of_ble_eq_true rfl) ?_
            refine ev_aload_n dX1_plan_46 rfl ?_
            refine ev_aload_n dX1_plan_47 rfl ?_
            refine ev_callVE dX1_plan_48 cv_X1_359_J26 ce_J26_isEmpty LA.1 rfl rfl rfl (al_isEmpty LA.1 (by omega)) (by omega) (Nat.le_of_ble_eq_true rfl) ?_
            rw [if_pos (by omega)]
            refine ev_if_neZ (tgt := 58) dX1_plan_51 (by decide) (by omega) (fun c51 => ?_) (fun c51 => by omega)
            refine ev_iconstZ dX1_plan_58 ?_
            refine ev_bipushZ dX1_plan_59 rfl ?_
            refine ev_callV dX1_plan_61 cv_X1_125_X1 ce_X1_checkReason HO2 rfl rfl rfl (k_checkReasonF HO2 hBo (y := 6) (b := false) hG rfl) (by omega) (by omega) (by omega) (Nat.le_of_ble_eq_true rfl) (fun v h2 q => ?_) (fun E q h2 r9 => ?_)
            · obtain ⟨q9, e9, -⟩ := q; cases e9
            · obtain ⟨q9, e9, e8, e7⟩ := r9
              cases e9
              have W9 : WX g N B h2 o (wReason σ 6) := ⟨_, own, _, us, cl, ud, uv, uh, ib, iv, ic, os, ow, _, _, lev, cs, e8, WXr.self WR2 e7⟩
              exact evx_out rfl (XQ.no (by decide) rfl (W9.le (Nat.le_succ N)) ((F12.more (S' := [o]) (fun x hx => by cases hx)).call e7 (fun x hx => Or.inl hx)) (fun x hx => by rw [List.mem_singleton.mp hx]; exact WR.nB))
          · rw [if_neg hy0]
            have hy := ys_ok hE (by omega) hn hy0
            have hyk := layY_ok hy
            obtain ⟨Py, hPy, hPy1, hPy2, hPy3⟩ := id hyk.2.2
            have nk := nxP_ok pf.2.1 pf.1 hy (by omega)
            obtain ⟨csx, x1, x2, x3, x4, x5⟩ := nk.2.2.1
            have hnl : (nxP l ys).length ≤ 2000 := by
              have h1 : (layY ys).length ≤ 9 := by have := hy.2.1; unfold layY; split <;> simp <;> omega
              unfold nxP wthL
              rw [List.length_cons, List.length_append]
              have h2 : (if rootK l = 7 then l.tail else l).length ≤ l.length := by split <;> simp
              omega
            have hyl : (layY ys).length ≤ 2000 := by have := hy.2.1; unfold layY; split <;> simp <;> omega
            have hlY := longY_le hy
            have hd82 := dep_le nk.1
            by_cases h99 : (mean l).1.1 + longY ys > 99
            · rw [if_pos (Or.inl h99)]
              refine ev_astore_n dX1_plan_31 (by decide) rfl ?_
              dsimp only [List.set]
              refine ev_aload_n dX1_plan_32 rfl ?_
              refine ev_aload_n dX1_plan_33 rfl ?_
              refine ev_ifnull dX1_plan_34 ?_
              refine ev_iconstZ dX1_plan_37 ?_
              refine ev_goto (tgt := 42) dX1_plan_38 (by decide) ?_
              refine ev_iconstZ dX1_plan_42 ?_
              refine ev_callVN dX1_plan_43 cv_X1_125_X1 ce_X1_checkReason HO2 rfl rfl rfl (k_checkReasonT (d := 0) HO2 hBo (y := 5) (b := true) rfl) (by omega) (Nat.le_of_ble_eq_true rfl) ?_
              refine ev_aload_n dX1_plan_46 rfl ?_
              refine ev_aload_n dX1_plan_47 rfl ?_
              refine ev_callVE dX1_plan_48 cv_X1_359_J26 ce_J26_isEmpty LA.1 rfl rfl rfl (al_isEmpty LA.1 (by omega)) (by omega) (Nat.le_of_ble_eq_true rfl) ?_
              rw [if_neg (by omega)]
              refine ev_if_neZ (tgt := 58) dX1_plan_51 (by decide) (by omega) (fun c51 => by omega) (fun c51 => ?_)
              refine ev_iconstZ dX1_plan_54 ?_
              refine ev_goto (tgt := 59) dX1_plan_55 (by decide) ?_
              refine ev_bipushZ dX1_plan_59 rfl ?_
              refine ev_callVN dX1_plan_61 cv_X1_125_X1 ce_X1_checkReason HO2 rfl rfl rfl (k_checkReasonT (d := 0) HO2 hBo (y := 6) (b := true) rfl) (by omega) (Nat.le_of_ble_eq_true rfl) ?_
              refine ev_iconstZ dX1_plan_64 ?_
              refine ev_aload_n dX1_plan_65 rfl ?_
              obtain ⟨fq, a3, a4⟩ := id LA.2.2.1
              refine ev_callSR dX1_plan_66 cs_X1_366 ce_X16_of rfl rfl (k_of16 (b := true) (rs := rs) hG LA.1 a3 a4 ⟨LA.2.2.2.2.1, by have := LA.2.2.2.2.2.1; omega⟩ (by omega) (by omega) (fun q hq => by obtain ⟨κ, fs, e⟩ := R8.cls hq; exact ⟨κ, fs, G.2.1 _ _ e⟩)) (by omega) (by omega) (by omega) (Nat.le_of_ble_eq_true rfl) (fun v h3 q => ?_)
              obtain ⟨r, rfl, hr, F3⟩ := q
              obtain ⟨J2, n2, G2, hJJ, hNy0⟩ := lay_node (hSI.fr0 F1) G F2 LA R8 hpl1 hv2 (by omega) (by omega) hlow hr F3
              have F13 := F12.call F3 nil_in
              have HO3 := F13.keep HO (fun q => by cases q)
              have k1c := F13.keep k1 (fun q => by cases q)
              have hNy : NodeAt J2 81 r (layY ys) := NodeAt.down n2 81 r _ hNy0 (hyk.1.mono (by omega))
              refine ev_astore_n dX1_plan_69 (by decide) rfl ?_
              dsimp only [List.set]
              refine ev_aload_n dX1_plan_70 rfl ?_
              refine ev_getf dX1_plan_71 gf_X1_37_X1 HO3 rfl ?_
              refine ev_aload_n dX1_plan_74 rfl ?_
              refine ev_callVR dX1_plan_75 cv_X1_372_X2 ce_X2_with k1c rfl rfl rfl (k_withX2 (c := 4) (k := 3 * l.length + 27) hG G2.2.1 (K0.fr F13) ((H.fr F13 (fun x hx => by cases hx)).sub G2.1) hp9 hNy (by omega) pf.2.1.2 (G2.cap hCI) (Nat.le_refl 9) (Nat.le_refl _) (Nat.le_refl _)) (by omega) (by omega) (by omega) (Nat.le_of_ble_eq_true rfl) (fun v1 h4 P1 => ?_)
              obtain ⟨nx, J3, rfl, G3, hNx, F4⟩ := P1
              have F14 := F13.call F4 nil_in
              have HO4 := F14.keep HO (fun q => by cases q)
              have Gt : Gw I h J3 h4 := ((Gw.refl hSI).fr0 F1).trans F1 (G2.trans (F2.call F3 nil_in) G3)
              have WR4 := WXr.gw WR0 (by rw [HO0]; exact fun q => by cases q) Gt F14
              have hN2 : NodeAt J3 82 nx (nxP l ys) := hNx _ rfl rfl
              have hN4 := hN2.sub Gt.2.1
              have hcl4 := hN4.cls
              refine ev_astore dX1_plan_78 (by decide) rfl ?_
              dsimp only [List.set]
              refine ev_aload_n dX1_plan_80 rfl ?_
              refine ev_aload dX1_plan_81 rfl ?_
              refine ev_callNE dX1_plan_83 (nv_X1_190 hG) fe_length (hcl4) rfl rfl ((by rw [x1] at hN4 ⊢; exact n_lenS hG hN4 x2 x3 x4 (by rw [← x1]; omega) (by rw [← x1]; exact nk.2.1) x5)) (by omega) (Nat.le_of_ble_eq_true rfl) ?_
              refine ev_bipushZ dX1_plan_86 rfl ?_
              refine ev_icmp_gtZ (tgt := 95) dX1_plan_88 (by decide) (by omega) (by omega) (fun c88 => ?_) (fun c88 => by omega)
              refine ev_iconstZ dX1_plan_95 ?_
              refine ev_bipushZ dX1_plan_96 rfl ?_
              refine ev_callV dX1_plan_98 cv_X1_125_X1 ce_X1_checkReason HO4 rfl rfl rfl (k_checkReasonF HO4 hBo (y := 7) (b := false) hG rfl) (by omega) (by omega) (by omega) (Nat.le_of_ble_eq_true rfl) (fun v h2 q => ?_) (fun E q h2 r9 => ?_)
              · obtain ⟨q9, e9, -⟩ := q; cases e9
              · obtain ⟨q9, e9, e8, e7⟩ := r9
                cases e9
                have W9 : WX g N B h2 o (wReason σ 7) := ⟨_, own, _, us, cl, ud, uv, uh, ib, iv, ic, os, ow, _, _, lev, cs, e8, WXr.self WR4 e7⟩
                exact evx_out rfl (XQ.no (by decide) rfl (W9.le (Nat.le_succ N)) ((F14.more (S' := [o]) (fun x hx => by cases hx)).call e7 (fun x hx => Or.inl hx)) (fun x hx => by rw [List.mem_singleton.mp hx]; exact WR.nB))
            · obtain ⟨Q9, hQ, hQ1⟩ := nk.2.2.2.2 (by omega)
              by_cases hdp : 20 < depV (nxP l ys)
              · rw [if_pos (Or.inr hdp)]
                refine ev_astore_n dX1_plan_31 (by decide) rfl ?_
                dsimp only [List.set]
                refine ev_aload_n dX1_plan_32 rfl ?_
                refine ev_aload_n dX1_plan_33 rfl ?_
                refine ev_ifnull dX1_plan_34 ?_
                refine ev_iconstZ dX1_plan_37 ?_
                refine ev_goto (tgt := 42) dX1_plan_38 (by decide) ?_
                refine ev_iconstZ dX1_plan_42 ?_
                refine ev_callVN dX1_plan_43 cv_X1_125_X1 ce_X1_checkReason HO2 rfl rfl rfl (k_checkReasonT (d := 0) HO2 hBo (y := 5) (b := true) rfl) (by omega) (Nat.le_of_ble_eq_true rfl) ?_
                refine ev_aload_n dX1_plan_46 rfl ?_
                refine ev_aload_n dX1_plan_47 rfl ?_
                refine ev_callVE dX1_plan_48 cv_X1_359_J26 ce_J26_isEmpty LA.1 rfl rfl rfl (al_isEmpty LA.1 (by omega)) (by omega) (Nat.le_of_ble_eq_true rfl) ?_
                rw [if_neg (by omega)]
                refine ev_if_neZ (tgt := 58) dX1_plan_51 (by decide) (by omega) (fun c51 => by omega) (fun c51 => ?_)
                refine ev_iconstZ dX1_plan_54 ?_
                refine ev_goto (tgt := 59) dX1_plan_55 (by decide) ?_
                refine ev_bipushZ dX1_plan_59 rfl ?_
                refine ev_callVN dX1_plan_61 cv_X1_125_X1 ce_X1_checkReason HO2 rfl rfl rfl (k_checkReasonT (d := 0) HO2 hBo (y := 6) (b := true) rfl) (by omega) (Nat.le_of_ble_eq_true rfl) ?_
                refine ev_iconstZ dX1_plan_64 ?_
                refine ev_aload_n dX1_plan_65 rfl ?_
                obtain ⟨fq, a3, a4⟩ := id LA.2.2.1
                refine ev_callSR dX1_plan_66 cs_X1_366 ce_X16_of rfl rfl (k_of16 (b := true) (rs := rs) hG LA.1 a3 a4 ⟨LA.2.2.2.2.1, by have := LA.2.2.2.2.2.1; omega⟩ (by omega) (by omega) (fun q hq => by obtain ⟨κ, fs, e⟩ := R8.cls hq; exact ⟨κ, fs, G.2.1 _ _ e⟩)) (by omega) (by omega) (by omega) (Nat.le_of_ble_eq_true rfl) (fun v h3 q => ?_)
                obtain ⟨r, rfl, hr, F3⟩ := q
                obtain ⟨J2, n2, G2, hJJ, hNy0⟩ := lay_node (hSI.fr0 F1) G F2 LA R8 hpl1 hv2 (by omega) (by omega) hlow hr F3
                have F13 := F12.call F3 nil_in
                have HO3 := F13.keep HO (fun q => by cases q)
                have k1c := F13.keep k1 (fun q => by cases q)
                have hNy : NodeAt J2 81 r (layY ys) := NodeAt.down n2 81 r _ hNy0 (hyk.1.mono (by omega))
                refine ev_astore_n dX1_plan_69 (by decide) rfl ?_
                dsimp only [List.set]
                refine ev_aload_n dX1_plan_70 rfl ?_
                refine ev_getf dX1_plan_71 gf_X1_37_X1 HO3 rfl ?_
                refine ev_aload_n dX1_plan_74 rfl ?_
                refine ev_callVR dX1_plan_75 cv_X1_372_X2 ce_X2_with k1c rfl rfl rfl (k_withX2 (c := 4) (k := 3 * l.length + 27) hG G2.2.1 (K0.fr F13) ((H.fr F13 (fun x hx => by cases hx)).sub G2.1) hp9 hNy (by omega) pf.2.1.2 (G2.cap hCI) (Nat.le_refl 9) (Nat.le_refl _) (Nat.le_refl _)) (by omega) (by omega) (by omega) (Nat.le_of_ble_eq_true rfl) (fun v1 h4 P1 => ?_)
                obtain ⟨nx, J3, rfl, G3, hNx, F4⟩ := P1
                have F14 := F13.call F4 nil_in
                have HO4 := F14.keep HO (fun q => by cases q)
                have Gt : Gw I h J3 h4 := ((Gw.refl hSI).fr0 F1).trans F1 (G2.trans (F2.call F3 nil_in) G3)
                have WR4 := WXr.gw WR0 (by rw [HO0]; exact fun q => by cases q) Gt F14
                have hN2 : NodeAt J3 82 nx (nxP l ys) := hNx _ rfl rfl
                have hN4 := hN2.sub Gt.2.1
                have hcl4 := hN4.cls
                refine ev_astore dX1_plan_78 (by decide) rfl ?_
                dsimp only [List.set]
                refine ev_aload_n dX1_plan_80 rfl ?_
                refine ev_aload dX1_plan_81 rfl ?_
                refine ev_callNE dX1_plan_83 (nv_X1_190 hG) fe_length (hcl4) rfl rfl ((by rw [x1] at hN4 ⊢; exact n_lenS hG hN4 x2 x3 x4 (by rw [← x1]; omega) (by rw [← x1]; exact nk.2.1) x5)) (by omega) (Nat.le_of_ble_eq_true rfl) ?_
                refine ev_bipushZ dX1_plan_86 rfl ?_
                refine ev_icmp_gtZ (tgt := 95) dX1_plan_88 (by decide) (by omega) (by omega) (fun c88 => by omega) (fun c88 => ?_)
                refine ev_iconstZ dX1_plan_91 ?_
                refine ev_goto (tgt := 96) dX1_plan_92 (by decide) ?_
                refine ev_bipushZ dX1_plan_96 rfl ?_
                refine ev_callVN dX1_plan_98 cv_X1_125_X1 ce_X1_checkReason HO4 rfl rfl rfl (k_checkReasonT (d := 0) HO4 hBo (y := 7) (b := true) rfl) (by omega) (Nat.le_of_ble_eq_true rfl) ?_
                refine ev_aload_n dX1_plan_101 rfl ?_
                refine ev_aload dX1_plan_102 rfl ?_
                refine ev_callV dX1_plan_104 cv_X1_236_X1 ce_X1_replace HO4 rfl rfl rfl (k_replaceF hG HO4 WR4 (hN2) (by omega) hdp (by omega) (Nat.le_refl 520) (Nat.le_refl 30) (Nat.le_refl 1000)) (by omega) (by omega) (by omega) (Nat.le_of_ble_eq_true rfl) (fun v h2 q => ?_) (fun E q h2 r9 => ?_)
                · obtain ⟨q9, e9, -⟩ := q; cases e9
                · obtain ⟨q9, e9, W9, F9⟩ := r9
                  cases e9
                  exact evx_out rfl (XQ.no (by decide) rfl (W9.le (Nat.le_succ N)) ((F14.more (S' := [o]) (fun x hx => by cases hx)).call F9 (fun x hx => Or.inl hx)) (fun x hx => by rw [List.mem_singleton.mp hx]; exact WR.nB))
              · rw [if_neg (fun q => by omega)]
                have hTQ0 := TR_depth 82 _ Q9 nk.1 hQ
                have hQd := (pt_ok 82 _ nk.1 nk.2.1 Q9 hQ).2.2
                have hTQ : TR 20 (nxP l ys) := hTQ0.mono (by omega)
                refine ev_astore_n dX1_plan_31 (by decide) rfl ?_
                dsimp only [List.set]
                refine ev_aload_n dX1_plan_32 rfl ?_
                refine ev_aload_n dX1_plan_33 rfl ?_
                refine ev_ifnull dX1_plan_34 ?_
                refine ev_iconstZ dX1_plan_37 ?_
                refine ev_goto (tgt := 42) dX1_plan_38 (by decide) ?_
                refine ev_iconstZ dX1_plan_42 ?_
                refine ev_callVN dX1_plan_43 cv_X1_125_X1 ce_X1_checkReason HO2 rfl rfl rfl (k_checkReasonT (d := 0) HO2 hBo (y := 5) (b := true) rfl) (by omega) (Nat.le_of_ble_eq_true rfl) ?_
                refine ev_aload_n dX1_plan_46 rfl ?_
                refine ev_aload_n dX1_plan_47 rfl ?_
                refine ev_callVE dX1_plan_48 cv_X1_359_J26 ce_J26_isEmpty LA.1 rfl rfl rfl (al_isEmpty LA.1 (by omega)) (by omega) (Nat.le_of_ble_eq_true rfl) ?_
                rw [if_neg (by omega)]
                refine ev_if_neZ (tgt := 58) dX1_plan_51 (by decide) (by omega) (fun c51 => by omega) (fun c51 => ?_)
                refine ev_iconstZ dX1_plan_54 ?_
                refine ev_goto (tgt := 59) dX1_plan_55 (by decide) ?_
                refine ev_bipushZ dX1_plan_59 rfl ?_
                refine ev_callVN dX1_plan_61 cv_X1_125_X1 ce_X1_checkReason HO2 rfl rfl rfl (k_checkReasonT (d := 0) HO2 hBo (y := 6) (b := true) rfl) (by omega) (Nat.le_of_ble_eq_true rfl) ?_
                refine ev_iconstZ dX1_plan_64 ?_
                refine ev_aload_n dX1_plan_65 rfl ?_
                obtain ⟨fq, a3, a4⟩ := id LA.2.2.1
                refine ev_callSR dX1_plan_66 cs_X1_366 ce_X16_of rfl rfl (k_of16 (b := true) (rs := rs) hG LA.1 a3 a4 ⟨LA.2.2.2.2.1, by have := LA.2.2.2.2.2.1; omega⟩ (by omega) (by omega) (fun q hq => by obtain ⟨κ, fs, e⟩ := R8.cls hq; exact ⟨κ, fs, G.2.1 _ _ e⟩)) (by omega) (by omega) (by omega) (Nat.le_of_ble_eq_true rfl) (fun v h3 q => ?_)
                obtain ⟨r, rfl, hr, F3⟩ := q
                obtain ⟨J2, n2, G2, hJJ, hNy0⟩ := lay_node (hSI.fr0 F1) G F2 LA R8 hpl1 hv2 (by omega) (by omega) hlow hr F3
                have F13 := F12.call F3 nil_in
                have HO3 := F13.keep HO (fun q => by cases q)
                have k1c := F13.keep k1 (fun q => by cases q)
                have hNy : NodeAt J2 81 r (layY ys) := NodeAt.down n2 81 r _ hNy0 (hyk.1.mono (by omega))
                refine ev_astore_n dX1_plan_69 (by decide) rfl ?_
                dsimp only [List.set]
                refine ev_aload_n dX1_plan_70 rfl ?_
                refine ev_getf dX1_plan_71 gf_X1_37_X1 HO3 rfl ?_
                refine ev_aload_n dX1_plan_74 rfl ?_
                refine ev_callVR dX1_plan_75 cv_X1_372_X2 ce_X2_with k1c rfl rfl rfl (k_withX2 (c := 4) (k := 3 * l.length + 27) hG G2.2.1 (K0.fr F13) ((H.fr F13 (fun x hx => by cases hx)).sub G2.1) hp9 hNy (by omega) pf.2.1.2 (G2.cap hCI) (Nat.le_refl 9) (Nat.le_refl _) (Nat.le_refl _)) (by omega) (by omega) (by omega) (Nat.le_of_ble_eq_true rfl) (fun v1 h4 P1 => ?_)
                obtain ⟨nx, J3, rfl, G3, hNx, F4⟩ := P1
                have F14 := F13.call F4 nil_in
                have HO4 := F14.keep HO (fun q => by cases q)
                have Gt : Gw I h J3 h4 := ((Gw.refl hSI).fr0 F1).trans F1 (G2.trans (F2.call F3 nil_in) G3)
                have WR4 := WXr.gw WR0 (by rw [HO0]; exact fun q => by cases q) Gt F14
                have hN2 : NodeAt J3 82 nx (nxP l ys) := hNx _ rfl rfl
                have hN4 := hN2.sub Gt.2.1
                have hcl4 := hN4.cls
                refine ev_astore dX1_plan_78 (by decide) rfl ?_
                dsimp only [List.set]
                refine ev_aload_n dX1_plan_80 rfl ?_
                refine ev_aload dX1_plan_81 rfl ?_
                refine ev_callNE dX1_plan_83 (nv_X1_190 hG) fe_length (hcl4) rfl rfl ((by rw [x1] at hN4 ⊢; exact n_lenS hG hN4 x2 x3 x4 (by rw [← x1]; omega) (by rw [← x1]; exact nk.2.1) x5)) (by omega) (Nat.le_of_ble_eq_true rfl) ?_
                refine ev_bipushZ dX1_plan_86 rfl ?_
                refine ev_icmp_gtZ (tgt := 95) dX1_plan_88 (by decide) (by omega) (by omega) (fun c88 => by omega) (fun c88 => ?_)
                refine ev_iconstZ dX1_plan_91 ?_
                refine ev_goto (tgt := 96) dX1_plan_92 (by decide) ?_
                refine ev_bipushZ dX1_plan_96 rfl ?_
                refine ev_callVN dX1_plan_98 cv_X1_125_X1 ce_X1_checkReason HO4 rfl rfl rfl (k_checkReasonT (d := 0) HO4 hBo (y := 7) (b := true) rfl) (by omega) (Nat.le_of_ble_eq_true rfl) ?_
                refine ev_aload_n dX1_plan_101 rfl ?_
                refine ev_aload dX1_plan_102 rfl ?_
                refine ev_callVR dX1_plan_104 cv_X1_236_X1 ce_X1_replace HO4 rfl rfl rfl (k_replaceT hG HO4 WR4 (hN2.d81 (hTQ.mono (by omega))) (⟨hTQ.mono (by omega), nk.2.1⟩) (by rw [mean_of hQ]; exact hQ) (by omega) (by omega) (Nat.le_refl 520) (Nat.le_refl 30) (Nat.le_refl 1000)) (by omega) (by omega) (by omega) (Nat.le_of_ble_eq_true rfl) (fun v2 h9 P2 => ?_)
                obtain ⟨rfl, W9, hS9, S9, F9, hB9⟩ := P2
                refine ev_istore dX1_plan_107 (by decide) rfl ?_
                dsimp only [List.set]
                refine ev_aload_n dX1_plan_109 rfl ?_
                refine ev_callNE dX1_plan_110 (nv_X1_190 hG) fe_length ((hNy.sub (G3.1.trans hS9)).cls) rfl rfl (n_len hG 81 r (layY ys) (hNy.sub (G3.1.trans hS9)) (by omega) hyk.2.1 ⟨_, hPy⟩) (by omega) (Nat.le_of_ble_eq_true rfl) ?_
                refine ev_ireturn dX1_plan_113 rfl ?_
                rw [(len_ok 2 _ hyk.1 hyk.2.1 _ hPy).1, hPy1]
                exact XQ.ok W9 ((F14.more (S' := S9) (fun x hx => by cases hx)).call F9 (fun x hx => Or.inl hx)) hB9
  · rw [if_neg c9]
    replace W := W.le (Nat.le_succ N)
    refine ev_iload_n dX1_plan_0 rfl ?_
    refine ev_callS dX1_plan_1 cs_X1_341 ce_X1_checkFormation rfl rfl (k_checkFormationF hG hr1 c9) (by omega) (by omega) (by omega) (Nat.le_of_ble_eq_true rfl) (fun v h2 q => ?_) (fun E q h2 r => ?_)
    · obtain ⟨q9, e9, -⟩ := q; cases e9
    · obtain ⟨q9, e9, rfl⟩ := r
      cases e9
      exact evx_out rfl (XQ.no (by decide) rfl W (Fr.refl _ []) nil_B)
end Z2S

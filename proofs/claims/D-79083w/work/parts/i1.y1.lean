/-! THE COMPONENT: the class, repeat (printed by gen) -/
section Y1S
variable {g : GB} {M : MI} {d c k : Nat} {h : HM}
variable {N : Nat} {B : Nat → Prop} {o : Nat} {σ : Sp}
theorem cuesV_one {n v : Nat} {l : List Nd} (h : TR n l) : cuesV (oneNd 3 v :: l) = cuesV l * v := by
  unfold cuesV
  rw [val_one cuesA 0 h]
  show v * (0 + _) = _
  rw [Nat.zero_add, Nat.mul_comm]
theorem n_lenR {pp r v : Nat} {l : List Nd} (hG : GKx g) (hnd : ndC h r (oneNd 3 v) [pp]) (hN : NodeAt h 81 pp l) (hl : l.length < 100000) (hok : pcOk l) (hv : ndOk2 (oneNd 3 v)) (hs : ∃ P : Pt, sem l = .ok P) {m : Nat} (hm : lenV l = m) : Kc g (fam_length (rootK (oneNd 3 v :: l))) 410 0 0 [.ref r] h (sR (some (vz ((m * v : Nat) : Int))) h) := by
  have h1 := n_lenC (n := 81) (cs := [l]) (as := [pp]) hG rfl rfl hnd (fun i q c h1 h2 => by
    cases i with
    | zero => cases h1; cases h2; exact hN
    | succ i => simp at h1) (by rw [List.flatten_singleton, List.length_cons]; omega) (fun x hx => by
      rw [List.flatten_singleton] at hx
      rcases List.mem_cons.mp hx with e | e
      · rw [e]; exact hv
      · exact hok.2 x e) (fun c hc => by rw [List.mem_singleton.mp hc]; exact hs)
  rw [show lenA (oneNd 3 v) ([l].map lenV) = m * v by rw [← hm, Nat.mul_comm]; rfl] at h1
  exact h1
theorem n_cuesR {n r v : Nat} {l : List Nd} (hG : GKx g) (hN : NodeAt h n r (oneNd 3 v :: l)) (hT : TR 81 l) (hl : l.length < 100000) : Kc g (fam_cues (rootK (oneNd 3 v :: l))) (6 * n) 0 0 [.ref r] h (sR (some (vz ((cuesV l * v : Nat) : Int))) h) := by
  have h1 := n_cues hG n r (oneNd 3 v :: l) hN (by rw [List.length_cons]; omega)
  rw [cuesV_one hT] at h1
  exact h1
set_option maxRecDepth 100000 in
set_option maxHeartbeats 4000000 in
theorem kx_repeat (hG : GKx g) (K0 : KC g h) (W : WX g N B h o σ) (hO : spOk σ) {x : Int} (hr1 : inR x) (hL : dnLn σ.1) (hd : 530 ≤ d) (hc : 40 ≤ c) (hk : 1100 ≤ k) : Kc g mX1_repeat d c k [.ref o, vz x] h (XQ g (N + 1) B h o (fun m : Int => if m = 1 then "java/lang/IllegalArgumentException" else "java/lang/IllegalStateException") (opRepeat σ x)) := by
  refine Kc.of (ls := [some (.ref o), some (vz x), none, none]) (by decide +kernel) (Nat.le_of_ble_eq_true rfl) rfl ?_
  obtain ⟨I, own, ⟨pid, a, st, fo⟩, us, cl, ud, uv, uh, ib, iv, ic, os, ow, sdv, scv, lev, cs, HO, WR⟩ := id W
  have HO : h o = some (.inr (0, [.ref a, .ref cl, .ref ud, sdv, scv, .ref ib, .ref os, lev, vz σ.2.2.2.2.2.1, vz σ.2.2.2.2.1])) := HO
  obtain ⟨⟨hBo, ho1, hIo⟩, ⟨hSI, hCI, hBB⟩, KD, KCs, KU, KN, KS, KI, KOu, KE⟩ := id WR
  have H : DnC g I h a st fo σ.1 := KD.1
  have dO := hO.1
  obtain ⟨A, Bf, pv, sv, KDA, hA, hB9, hV⟩ := id H
  obtain ⟨k1, k2, k3, k4, k5, k6, k7, k8⟩ := id KDA
  unfold opRepeat
  have WR0 := WR
  have HO0 := HO
  have hSI0 := hSI
  by_cases c9 : 2 ≤ x ∧ x ≤ 9
  · rw [if_pos c9]
    cases hp9 : σ.1.2.2.2 with
    | none =>
      refine ev_iload_n dX1_repeat_0 rfl ?_
      refine ev_i2l dX1_repeat_1 ?_
      refine ev_ldc2 (v := 2) dX1_repeat_2 q1407 ?_
      refine ev_ldc2 (v := 9) dX1_repeat_5 q1408 ?_
      refine ev_callSE dX1_repeat_8 cs_X1_108 ce_X1_inRange rfl rfl (k_inRange (d := 0) (a := x) (lo := 2) (hi := 9) (by omega)) (by omega) (Nat.le_of_ble_eq_true rfl) ?_
      refine ev_callSN dX1_repeat_11 cs_X1_133 ce_X1_checkArgument rfl rfl (k_checkArgumentT (d := 0) (decide_eq_true c9)) (by omega) (Nat.le_of_ble_eq_true rfl) ?_
      refine ev_aload_n dX1_repeat_14 rfl ?_
      refine ev_callV dX1_repeat_15 cv_X1_209_X1 ce_X1_checkPiece HO rfl rfl rfl (k_checkPieceF H HO hBo hG hp9) (by omega) (by omega) (by omega) (Nat.le_of_ble_eq_true rfl) (fun v h2 q => ?_) (fun E q h2 r => ?_)
      · obtain ⟨q9, e9, -⟩ := q; cases e9
      · obtain ⟨q9, e9, e8, e7⟩ := r
        cases e9
        have W9 : WX g N B h2 o (wReason σ 3) := ⟨I, own, (pid, a, st, fo), us, cl, ud, uv, uh, ib, iv, ic, os, ow, sdv, scv, lev, cs, e8, WR.self e7⟩
        exact evx_out rfl (XQ.no (by decide) rfl (W9.le (Nat.le_succ N)) e7 (fun x hx => by rw [List.mem_singleton.mp hx]; exact WR.nB))
    | some l =>
      rw [hp9] at hV
      obtain ⟨pp, sc, ss, cu, ru, rfl, rfl, hN, SA, SB, ⟨s1, s2, s3, s4, s5, s6, s7⟩, hSA, hSB⟩ := hV
      have pf := pf_dn dO hp9
      replace s1 := hSI _ _ s1
      replace s2 := hSI _ _ s2
      have hcn := (hN.sub hSI).cls
      obtain ⟨v, rfl⟩ := toB x (by omega)
      have hl9 := hL l hp9
      have hN0 := hN
      have hdl := pf.2.2.2.1.2.2.1
      have hd81 := dep_le pf.2.1.1
      have h99 := pf.2.2.1
      have hcu := pf.2.2.2.2.2.1
      have hcv := pf.2.2.2.1.2.1
      have hv2 : ndOk2 (oneNd 3 v) := ndOk2_one (by omega) (by omega) (fun _ => by omega)
      have hm1 : (mean l).1.1 * v ≤ 99 * 9 := Nat.mul_le_mul h99 (by omega)
      have hm2 : cuesV l * v ≤ 999 * 9 := Nat.mul_le_mul (by omega) (by omega)
      dsimp only
      rw [Int.toNat_natCast, ← hcv]
      by_cases a1 : (mean l).1.1 * v > 99
      · rw [if_pos (Or.inl a1)]
        refine ev_iload_n dX1_repeat_0 rfl ?_
        refine ev_i2l dX1_repeat_1 ?_
        refine ev_ldc2 (v := 2) dX1_repeat_2 q1407 ?_
        refine ev_ldc2 (v := 9) dX1_repeat_5 q1408 ?_
        refine ev_callSE dX1_repeat_8 cs_X1_108 ce_X1_inRange rfl rfl (k_inRange (d := 0) (a := ((v : Nat) : Int)) (lo := 2) (hi := 9) (by omega)) (by omega) (Nat.le_of_ble_eq_true rfl) ?_
        refine ev_callSN dX1_repeat_11 cs_X1_133 ce_X1_checkArgument rfl rfl (k_checkArgumentT (d := 0) (decide_eq_true c9)) (by omega) (Nat.le_of_ble_eq_true rfl) ?_
        refine ev_aload_n dX1_repeat_14 rfl ?_
        refine ev_callVN dX1_repeat_15 cv_X1_209_X1 ce_X1_checkPiece HO rfl rfl rfl (k_checkPieceT (d := 0) H HO hBo hp9) (by omega) (Nat.le_of_ble_eq_true rfl) ?_
        refine ev_newC (c' := 39) (k' := 1090) [.null, vz 0] dX1_repeat_18 cf_X10 q2198 q1708 q156 rfl (by omega) (by omega) (fun q1 hp_2 e3 B4 Hq1_5 f6 => ?_)
        have HO_7 := (f6 _ (ne_no HO e3)).trans HO
        have k1_8 := (f6 _ (ne_no k1 e3)).trans k1
        have s1_9 := (f6 _ (ne_no s1 e3)).trans s1
        have z10 := ((Fr.refl (g := g) _ [])).fresh e3
        have F11 := ((Fr.refl (g := g) _ [])).alloc (Or.inl ⟨_, Hq1_5⟩) f6 e3
        refine ev_dup dX1_repeat_21 rfl ?_
        refine ev_iload_n dX1_repeat_22 rfl ?_
        refine ev_aload_n dX1_repeat_23 rfl ?_
        refine ev_getf dX1_repeat_24 gf_X1_37_X1 HO_7 rfl ?_
        refine ev_getf dX1_repeat_27 gf_X1_121_X2 k1_8 rfl ?_
        refine ev_callVR dX1_repeat_30 ci_X1_246 ce_X10_init Hq1_5 rfl rfl rfl (k_i10 Hq1_5 B4) (by omega) (by omega) (by omega) (Nat.le_of_ble_eq_true rfl) (fun v12 hk P12 => ?_)
        obtain ⟨rfl, H12, F12⟩ := P12
        have HO_13 := F12.keep HO_7 (by simp only [List.mem_cons, List.not_mem_nil, or_false, not_or]; exact (ne_no HO e3))
        have k1_14 := F12.keep k1_8 (by simp only [List.mem_cons, List.not_mem_nil, or_false, not_or]; exact (ne_no k1 e3))
        have s1_15 := F12.keep s1_9 (by simp only [List.mem_cons, List.not_mem_nil, or_false, not_or]; exact (ne_no s1 e3))
        have F16 := (F11).call F12 (fun x hx => Or.inr (Or.inl (by rw [List.mem_singleton.mp hx]; exact z10)))
        obtain ⟨J1, G1, s1, j1, -⟩ := Gw.ex ((Gw.refl hSI0).fr0 F16) hSI0 H12 z10
        have WR2 := WXr.gw WR0 (by rw [HO0]; exact fun q => by cases q) G1 F16
        have hnd : ndC J1 q1 (oneNd 3 v) [pp] := ⟨fun q => absurd (show (3 : Nat) ≤ 1 from q) (by decide), fun q => absurd (show (3 : Nat) = 2 from q) (by decide), fun _ => ⟨pp, rfl, j1⟩, fun q => absurd (show (3 : Nat) = 4 from q) (by decide), fun q => absurd (show (3 : Nat) = 5 from q) (by decide), fun q => absurd (show 6 ≤ (3 : Nat) from q) (by decide)⟩
        have hN2 : NodeAt J1 82 q1 (oneNd 3 v :: l) := hN0.one G1.1 rfl (by show 3 ≤ (3 : Nat); omega) hnd
        have HOk := HO_13
        have Fk := F16
        have hSk := WR2.2.1.1
        have hN3 := hN2.sub hSk
        have hcl3 := hN3.cls
        have hnk := hnd.sub hSk
        have hNk := hN0.sub (G1.1.trans hSk)
        refine ev_astore_n dX1_repeat_33 (by decide) rfl ?_
        dsimp only [List.set]
        refine ev_aload_n dX1_repeat_34 rfl ?_
        refine ev_aload_n dX1_repeat_35 rfl ?_
        refine ev_callNE dX1_repeat_36 (nv_X1_190 hG) fe_length (hcl3) rfl rfl (n_lenR hG hnk hNk (by omega) pf.2.1 hv2 ⟨_, pf.1⟩ pf.2.2.2.1.2.2.2) (by omega) (Nat.le_of_ble_eq_true rfl) ?_
        refine ev_bipushZ dX1_repeat_39 rfl ?_
        refine ev_icmp_gtZ (tgt := 58) dX1_repeat_41 (by decide) (by omega) (by omega) (fun c41 => ?_) (fun c41 => by omega)
        refine ev_iconstZ dX1_repeat_58 ?_
        refine ev_bipushZ dX1_repeat_59 rfl ?_
        refine ev_callV dX1_repeat_61 cv_X1_125_X1 ce_X1_checkReason HOk rfl rfl rfl (k_checkReasonF HOk hBo (y := 7) (b := false) hG rfl) (by omega) (by omega) (by omega) (Nat.le_of_ble_eq_true rfl) (fun v h2 q => ?_) (fun E q h2 r9 => ?_)
        · obtain ⟨q9, e9, -⟩ := q; cases e9
        · obtain ⟨q9, e9, e8, e7⟩ := r9
          cases e9
          have W9 : WX g N B h2 o (wReason σ 7) := ⟨_, own, _, us, cl, ud, uv, uh, ib, iv, ic, os, ow, sdv, scv, lev, cs, e8, WXr.self WR2 e7⟩
          exact evx_out rfl (XQ.no (by decide) rfl (W9.le (Nat.le_succ N)) ((Fk.more (S' := [o]) (fun x hx => by cases hx)).call e7 (fun x hx => Or.inl hx)) (fun x hx => by rw [List.mem_singleton.mp hx]; exact WR.nB))
      · by_cases a2 : cuesV l * v > 999
        · rw [if_pos (Or.inr (Or.inl a2))]
          refine ev_iload_n dX1_repeat_0 rfl ?_
          refine ev_i2l dX1_repeat_1 ?_
          refine ev_ldc2 (v := 2) dX1_repeat_2 q1407 ?_
          refine ev_ldc2 (v := 9) dX1_repeat_5 q1408 ?_
          refine ev_callSE dX1_repeat_8 cs_X1_108 ce_X1_inRange rfl rfl (k_inRange (d := 0) (a := ((v : Nat) : Int)) (lo := 2) (hi := 9) (by omega)) (by omega) (Nat.le_of_ble_eq_true rfl) ?_
          refine ev_callSN dX1_repeat_11 cs_X1_133 ce_X1_checkArgument rfl rfl (k_checkArgumentT (d := 0) (decide_eq_true c9)) (by omega) (Nat.le_of_ble_eq_true rfl) ?_
          refine ev_aload_n dX1_repeat_14 rfl ?_
          refine ev_callVN dX1_repeat_15 cv_X1_209_X1 ce_X1_checkPiece HO rfl rfl rfl (k_checkPieceT (d := 0) H HO hBo hp9) (by omega) (Nat.le_of_ble_eq_true rfl) ?_
          refine ev_newC (c' := 39) (k' := 1090) [.null, vz 0] dX1_repeat_18 cf_X10 q2198 q1708 q156 rfl (by omega) (by omega) (fun q1 hp_2 e3 B4 Hq1_5 f6 => ?_)
          have HO_7 := (f6 _ (ne_no HO e3)).trans HO
          have k1_8 := (f6 _ (ne_no k1 e3)).trans k1
          have s1_9 := (f6 _ (ne_no s1 e3)).trans s1
          have z10 := ((Fr.refl (g := g) _ [])).fresh e3
          have F11 := ((Fr.refl (g := g) _ [])).alloc (Or.inl ⟨_, Hq1_5⟩) f6 e3
          refine ev_dup dX1_repeat_21 rfl ?_
          refine ev_iload_n dX1_repeat_22 rfl ?_
          refine ev_aload_n dX1_repeat_23 rfl ?_
          refine ev_getf dX1_repeat_24 gf_X1_37_X1 HO_7 rfl ?_
          refine ev_getf dX1_repeat_27 gf_X1_121_X2 k1_8 rfl ?_
          refine ev_callVR dX1_repeat_30 ci_X1_246 ce_X10_init Hq1_5 rfl rfl rfl (k_i10 Hq1_5 B4) (by omega) (by omega) (by omega) (Nat.le_of_ble_eq_true rfl) (fun v12 hk P12 => ?_)
          obtain ⟨rfl, H12, F12⟩ := P12
          have HO_13 := F12.keep HO_7 (by simp only [List.mem_cons, List.not_mem_nil, or_false, not_or]; exact (ne_no HO e3))
          have k1_14 := F12.keep k1_8 (by simp only [List.mem_cons, List.not_mem_nil, or_false, not_or]; exact (ne_no k1 e3))
          have s1_15 := F12.keep s1_9 (by simp only [List.mem_cons, List.not_mem_nil, or_false, not_or]; exact (ne_no s1 e3))
          have F16 := (F11).call F12 (fun x hx => Or.inr (Or.inl (by rw [List.mem_singleton.mp hx]; exact z10)))
          obtain ⟨J1, G1, s1, j1, -⟩ := Gw.ex ((Gw.refl hSI0).fr0 F16) hSI0 H12 z10
          have WR2 := WXr.gw WR0 (by rw [HO0]; exact fun q => by cases q) G1 F16
          have hnd : ndC J1 q1 (oneNd 3 v) [pp] := ⟨fun q => absurd (show (3 : Nat) ≤ 1 from q) (by decide), fun q => absurd (show (3 : Nat) = 2 from q) (by decide), fun _ => ⟨pp, rfl, j1⟩, fun q => absurd (show (3 : Nat) = 4 from q) (by decide), fun q => absurd (show (3 : Nat) = 5 from q) (by decide), fun q => absurd (show 6 ≤ (3 : Nat) from q) (by decide)⟩
          have hN2 : NodeAt J1 82 q1 (oneNd 3 v :: l) := hN0.one G1.1 rfl (by show 3 ≤ (3 : Nat); omega) hnd
          have HOk := HO_13
          have Fk := F16
          have hSk := WR2.2.1.1
          have hN3 := hN2.sub hSk
          have hcl3 := hN3.cls
          have hnk := hnd.sub hSk
          have hNk := hN0.sub (G1.1.trans hSk)
          refine ev_astore_n dX1_repeat_33 (by decide) rfl ?_
          dsimp only [List.set]
          refine ev_aload_n dX1_repeat_34 rfl ?_
          refine ev_aload_n dX1_repeat_35 rfl ?_
          refine ev_callNE dX1_repeat_36 (nv_X1_190 hG) fe_length (hcl3) rfl rfl (n_lenR hG hnk hNk (by omega) pf.2.1 hv2 ⟨_, pf.1⟩ pf.2.2.2.1.2.2.2) (by omega) (Nat.le_of_ble_eq_true rfl) ?_
          refine ev_bipushZ dX1_repeat_39 rfl ?_
          refine ev_icmp_gtZ (tgt := 58) dX1_repeat_41 (by decide) (by omega) (by omega) (fun c41 => by omega) (fun c41 => ?_)
          refine ev_aload_n dX1_repeat_44 rfl ?_
          refine ev_callNE dX1_repeat_45 (nv_X1_249 hG) fe_cues (hcl3) rfl rfl (n_cuesR hG hN3 pf.2.1.1 (by omega)) (by omega) (Nat.le_of_ble_eq_true rfl) ?_
          refine ev_sipushZ dX1_repeat_48 rfl ?_
          refine ev_icmp_gtZ (tgt := 58) dX1_repeat_51 (by decide) (by omega) (by omega) (fun c51 => ?_) (fun c51 => by omega)
          refine ev_iconstZ dX1_repeat_58 ?_
          refine ev_bipushZ dX1_repeat_59 rfl ?_
          refine ev_callV dX1_repeat_61 cv_X1_125_X1 ce_X1_checkReason HOk rfl rfl rfl (k_checkReasonF HOk hBo (y := 7) (b := false) hG rfl) (by omega) (by omega) (by omega) (Nat.le_of_ble_eq_true rfl) (fun v h2 q => ?_) (fun E q h2 r9 => ?_)
          · obtain ⟨q9, e9, -⟩ := q; cases e9
          · obtain ⟨q9, e9, e8, e7⟩ := r9
            cases e9
            have W9 : WX g N B h2 o (wReason σ 7) := ⟨_, own, _, us, cl, ud, uv, uh, ib, iv, ic, os, ow, sdv, scv, lev, cs, e8, WXr.self WR2 e7⟩
            exact evx_out rfl (XQ.no (by decide) rfl (W9.le (Nat.le_succ N)) ((Fk.more (S' := [o]) (fun x hx => by cases hx)).call e7 (fun x hx => Or.inl hx)) (fun x hx => by rw [List.mem_singleton.mp hx]; exact WR.nB))
        · by_cases a3 : (mean l).1.2.2.1 ≥ 20
          · rw [if_pos (Or.inr (Or.inr a3))]
            refine ev_iload_n dX1_repeat_0 rfl ?_
            refine ev_i2l dX1_repeat_1 ?_
            refine ev_ldc2 (v := 2) dX1_repeat_2 q1407 ?_
            refine ev_ldc2 (v := 9) dX1_repeat_5 q1408 ?_
            refine ev_callSE dX1_repeat_8 cs_X1_108 ce_X1_inRange rfl rfl (k_inRange (d := 0) (a := ((v : Nat) : Int)) (lo := 2) (hi := 9) (by omega)) (by omega) (Nat.le_of_ble_eq_true rfl) ?_
            refine ev_callSN dX1_repeat_11 cs_X1_133 ce_X1_checkArgument rfl rfl (k_checkArgumentT (d := 0) (decide_eq_true c9)) (by omega) (Nat.le_of_ble_eq_true rfl) ?_
            refine ev_aload_n dX1_repeat_14 rfl ?_
            refine ev_callVN dX1_repeat_15 cv_X1_209_X1 ce_X1_checkPiece HO rfl rfl rfl (k_checkPieceT (d := 0) H HO hBo hp9) (by omega) (Nat.le_of_ble_eq_true rfl) ?_
            refine ev_newC (c' := 39) (k' := 1090) [.null, vz 0] dX1_repeat_18 cf_X10 q2198 q1708 q156 rfl (by omega) (by omega) (fun q1 hp_2 e3 B4 Hq1_5 f6 => ?_)
            have HO_7 := (f6 _ (ne_no HO e3)).trans HO
            have k1_8 := (f6 _ (ne_no k1 e3)).trans k1
            have s1_9 := (f6 _ (ne_no s1 e3)).trans s1
            have z10 := ((Fr.refl (g := g) _ [])).fresh e3
            have F11 := ((Fr.refl (g := g) _ [])).alloc (Or.inl ⟨_, Hq1_5⟩) f6 e3
            refine ev_dup dX1_repeat_21 rfl ?_
            refine ev_iload_n dX1_repeat_22 rfl ?_
            refine ev_aload_n dX1_repeat_23 rfl ?_
            refine ev_getf dX1_repeat_24 gf_X1_37_X1 HO_7 rfl ?_
            refine ev_getf dX1_repeat_27 gf_X1_121_X2 k1_8 rfl ?_
            refine ev_callVR dX1_repeat_30 ci_X1_246 ce_X10_init Hq1_5 rfl rfl rfl (k_i10 Hq1_5 B4) (by omega) (by omega) (by omega) (Nat.le_of_ble_eq_true rfl) (fun v12 hk P12 => ?_)
            obtain ⟨rfl, H12, F12⟩ := P12
            have HO_13 := F12.keep HO_7 (by simp only [List.mem_cons, List.not_mem_nil, or_false, not_or]; exact (ne_no HO e3))
            have k1_14 := F12.keep k1_8 (by simp only [List.mem_cons, List.not_mem_nil, or_false, not_or]; exact (ne_no k1 e3))
            have s1_15 := F12.keep s1_9 (by simp only [List.mem_cons, List.not_mem_nil, or_false, not_or]; exact (ne_no s1 e3))
            have F16 := (F11).call F12 (fun x hx => Or.inr (Or.inl (by rw [List.mem_singleton.mp hx]; exact z10)))
            obtain ⟨J1, G1, s1, j1, -⟩ := Gw.ex ((Gw.refl hSI0).fr0 F16) hSI0 H12 z10
            have WR2 := WXr.gw WR0 (by rw [HO0]; exact fun q => by cases q) G1 F16
            have hnd : ndC J1 q1 (oneNd 3 v) [pp] := ⟨fun q => absurd (show (3 : Nat) ≤ 1 from q) (by decide), fun q => absurd (show (3 : Nat) = 2 from q) (by decide), fun _ => ⟨pp, rfl, j1⟩, fun q => absurd (show (3 : Nat) = 4 from q) (by decide), fun q => absurd (show (3 : Nat) = 5 from q) (by decide), fun q => absurd (show 6 ≤ (3 : Nat) from q) (by decide)⟩
            have hN2 : NodeAt J1 82 q1 (oneNd 3 v :: l) := hN0.one G1.1 rfl (by show 3 ≤ (3 : Nat); omega) hnd
            have HOk := HO_13
            have Fk := F16
            have hSk := WR2.2.1.1
            have hN3 := hN2.sub hSk
            have hcl3 := hN3.cls
            have hnk := hnd.sub hSk
            have hNk := hN0.sub (G1.1.trans hSk)
            refine ev_astore_n dX1_repeat_33 (by decide) rfl ?_
            dsimp only [List.set]
            refine ev_aload_n dX1_repeat_34 rfl ?_
            refine ev_aload_n dX1_repeat_35 rfl ?_
            refine ev_callNE dX1_repeat_36 (nv_X1_190 hG) fe_length (hcl3) rfl rfl (n_lenR hG hnk hNk (by omega) pf.2.1 hv2 ⟨_, pf.1⟩ pf.2.2.2.1.2.2.2) (by omega) (Nat.le_of_ble_eq_true rfl) ?_
            refine ev_bipushZ dX1_repeat_39 rfl ?_
            refine ev_icmp_gtZ (tgt := 58) dX1_repeat_41 (by decide) (by omega) (by omega) (fun c41 => by omega) (fun c41 => ?_)
            refine ev_aload_n dX1_repeat_44 rfl ?_
            refine ev_callNE dX1_repeat_45 (nv_X1_249 hG) fe_cues (hcl3) rfl rfl (n_cuesR hG hN3 pf.2.1.1 (by omega)) (by omega) (Nat.le_of_ble_eq_true rfl) ?_
            refine ev_sipushZ dX1_repeat_48 rfl ?_
            refine ev_icmp_gtZ (tgt := 58) dX1_repeat_51 (by decide) (by omega) (by omega) (fun c51 => by omega) (fun c51 => ?_)
            refine ev_iconstZ dX1_repeat_54 ?_
            refine ev_goto (tgt := 59) dX1_repeat_55 (by decide) ?_
            refine ev_bipushZ dX1_repeat_59 rfl ?_
            refine ev_callVN dX1_repeat_61 cv_X1_125_X1 ce_X1_checkReason HO_13 rfl rfl rfl (k_checkReasonT (d := 0) HOk hBo (y := 7) (b := true) rfl) (by omega) (Nat.le_of_ble_eq_true rfl) ?_
            refine ev_aload_n dX1_repeat_64 rfl ?_
            refine ev_aload_n dX1_repeat_65 rfl ?_
            refine ev_callV dX1_repeat_66 cv_X1_236_X1 ce_X1_replace HOk rfl rfl rfl (k_replaceF hG HOk WR2 (hN2) (by rw [List.length_cons]; omega) (by rw [depV_one pf.2.1.1]; omega) (by rw [depV_one pf.2.1.1]; omega) (Nat.le_refl 520) (Nat.le_refl 30) (Nat.le_refl 1000)) (by omega) (by omega) (by omega) (Nat.le_of_ble_eq_true rfl) (fun v h2 q => ?_) (fun E q h2 r9 => ?_)
            · obtain ⟨q9, e9, -⟩ := q; cases e9
            · obtain ⟨q9, e9, W9, F9⟩ := r9
              cases e9
              exact evx_out rfl (XQ.no (by decide) rfl (W9.le (Nat.le_succ N)) ((Fk.more (S' := [o]) (fun x hx => by cases hx)).call F9 (fun x hx => Or.inl hx)) (fun x hx => by rw [List.mem_singleton.mp hx]; exact WR.nB))
          · rw [if_neg (fun q => by omega)]
            obtain ⟨pq1, P9, pq2, pq3⟩ := pc_one (k := 3) (v := v) (by omega) (by omega) (fun _ => by omega) pf.2.1 pf.1 (by omega) pf.2.2.1 (by rw [if_pos rfl]; exact ⟨by omega, by rw [← hcv]; omega⟩)
            have pq9 : sem (oneNd 3 v :: l) = .ok (mean (oneNd 3 v :: l)) := by rw [mean_of pq2]; exact pq2
            refine ev_iload_n dX1_repeat_0 rfl ?_
            refine ev_i2l dX1_repeat_1 ?_
            refine ev_ldc2 (v := 2) dX1_repeat_2 q1407 ?_
            refine ev_ldc2 (v := 9) dX1_repeat_5 q1408 ?_
            refine ev_callSE dX1_repeat_8 cs_X1_108 ce_X1_inRange rfl rfl (k_inRange (d := 0) (a := ((v : Nat) : Int)) (lo := 2) (hi := 9) (by omega)) (by omega) (Nat.le_of_ble_eq_true rfl) ?_
            refine ev_callSN dX1_repeat_11 cs_X1_133 ce_X1_checkArgument rfl rfl (k_checkArgumentT (d := 0) (decide_eq_true c9)) (by omega) (Nat.le_of_ble_eq_true rfl) ?_
            refine ev_aload_n dX1_repeat_14 rfl ?_
            refine ev_callVN dX1_repeat_15 cv_X1_209_X1 ce_X1_checkPiece HO rfl rfl rfl (k_checkPieceT (d := 0) H HO hBo hp9) (by omega) (Nat.le_of_ble_eq_true rfl) ?_
            refine ev_newC (c' := 39) (k' := 1090) [.null, vz 0] dX1_repeat_18 cf_X10 q2198 q1708 q156 rfl (by omega) (by omega) (fun q1 hp_2 e3 B4 Hq1_5 f6 => ?_)
            have HO_7 := (f6 _ (ne_no HO e3)).trans HO
            have k1_8 := (f6 _ (ne_no k1 e3)).trans k1
            have s1_9 := (f6 _ (ne_no s1 e3)).trans s1
            have z10 := ((Fr.refl (g := g) _ [])).fresh e3
            have F11 := ((Fr.refl (g := g) _ [])).alloc (Or.inl ⟨_, Hq1_5⟩) f6 e3
            refine ev_dup dX1_repeat_21 rfl ?_
            refine ev_iload_n dX1_repeat_22 rfl ?_
            refine ev_aload_n dX1_repeat_23 rfl ?_
            refine ev_getf dX1_repeat_24 gf_X1_37_X1 HO_7 rfl ?_
            refine ev_getf dX1_repeat_27 gf_X1_121_X2 k1_8 rfl ?_
            refine ev_callVR dX1_repeat_30 ci_X1_246 ce_X10_init Hq1_5 rfl rfl rfl (k_i10 Hq1_5 B4) (by omega) (by omega) (by omega) (Nat.le_of_ble_eq_true rfl) (fun v12 hk P12 => ?_)
            obtain ⟨rfl, H12, F12⟩ := P12
            have HO_13 := F12.keep HO_7 (by simp only [List.mem_cons, List.not_mem_nil, or_false, not_or]; exact (ne_no HO e3))
            have k1_14 := F12.keep k1_8 (by simp only [List.mem_cons, List.not_mem_nil, or_false, not_or]; exact (ne_no k1 e3))
            have s1_15 := F12.keep s1_9 (by simp only [List.mem_cons, List.not_mem_nil, or_false, not_or]; exact (ne_no s1 e3))
            have F16 := (F11).call F12 (fun x hx => Or.inr (Or.inl (by rw [List.mem_singleton.mp hx]; exact z10)))
            obtain ⟨J1, G1, s1, j1, -⟩ := Gw.ex ((Gw.refl hSI0).fr0 F16) hSI0 H12 z10
            have WR2 := WXr.gw WR0 (by rw [HO0]; exact fun q => by cases q) G1 F16
            have hnd : ndC J1 q1 (oneNd 3 v) [pp] := ⟨fun q => absurd (show (3 : Nat) ≤ 1 from q) (by decide), fun q => absurd (show (3 : Nat) = 2 from q) (by decide), fun _ => ⟨pp, rfl, j1⟩, fun q => absurd (show (3 : Nat) = 4 from q) (by decide), fun q => absurd (show (3 : Nat) = 5 from q) (by decide), fun q => absurd (show 6 ≤ (3 : Nat) from q) (by decide)⟩
            have hN2 : NodeAt J1 82 q1 (oneNd 3 v :: l) := hN0.one G1.1 rfl (by show 3 ≤ (3 : Nat); omega) hnd
            have HOk := HO_13
            have Fk := F16
            have hSk := WR2.2.1.1
            have hN3 := hN2.sub hSk
            have hcl3 := hN3.cls
            have hnk := hnd.sub hSk
            have hNk := hN0.sub (G1.1.trans hSk)
            refine ev_astore_n dX1_repeat_33 (by decide) rfl ?_
            dsimp only [List.set]
            refine ev_aload_n dX1_repeat_34 rfl ?_
            refine ev_aload_n dX1_repeat_35 rfl ?_
            refine ev_callNE dX1_repeat_36 (nv_X1_190 hG) fe_length (hcl3) rfl rfl (n_lenR hG hnk hNk (by omega) pf.2.1 hv2 ⟨_, pf.1⟩ pf.2.2.2.1.2.2.2) (by omega) (Nat.le_of_ble_eq_true rfl) ?_
            refine ev_bipushZ dX1_repeat_39 rfl ?_
            refine ev_icmp_gtZ (tgt := 58) dX1_repeat_41 (by decide) (by omega) (by omega) (fun c41 => by omega) (fun c41 => ?_)
            refine ev_aload_n dX1_repeat_44 rfl ?_
            refine ev_callNE dX1_repeat_45 (nv_X1_249 hG) fe_cues (hcl3) rfl rfl (n_cuesR hG hN3 pf.2.1.1 (by omega)) (by omega) (Nat.le_of_ble_eq_true rfl) ?_
            refine ev_sipushZ dX1_repeat_48 rfl ?_
            refine ev_icmp_gtZ (tgt := 58) dX1_repeat_51 (by decide) (by omega) (by omega) (fun c51 => by omega) (fun c51 => ?_)
            refine ev_iconstZ dX1_repeat_54 ?_
            refine ev_goto (tgt := 59) dX1_repeat_55 (by decide) ?_
            refine ev_bipushZ dX1_repeat_59 rfl ?_
            refine ev_callVN dX1_repeat_61 cv_X1_125_X1 ce_X1_checkReason HO_13 rfl rfl rfl (k_checkReasonT (d := 0) HOk hBo (y := 7) (b := true) rfl) (by omega) (Nat.le_of_ble_eq_true rfl) ?_
            refine ev_aload_n dX1_repeat_64 rfl ?_
            refine ev_aload_n dX1_repeat_65 rfl ?_
            refine ev_callVR dX1_repeat_66 cv_X1_236_X1 ce_X1_replace HOk rfl rfl rfl (k_replaceT hG HOk WR2 (hN2.d81 pq1.1) (pq1) (pq9) (by rw [List.length_cons]; omega) (by rw [depV_one pf.2.1.1]; omega) (Nat.le_refl 520) (Nat.le_refl 30) (Nat.le_refl 1000)) (by omega) (by omega) (by omega) (Nat.le_of_ble_eq_true rfl) (fun v17 h9 P17 => ?_)
            obtain ⟨rfl, W9, hS9, S9, F9, hB9⟩ := P17
            refine ev_istore_n dX1_repeat_69 (by decide) rfl ?_
            dsimp only [List.set]
            refine ev_aload_n dX1_repeat_70 rfl ?_
            refine ev_callNE dX1_repeat_71 (nv_X1_190 hG) fe_length ((hN2.sub hS9).cls) rfl rfl (n_lenR hG (hnd.sub hS9) (hN0.sub (G1.1.trans hS9)) (by omega) pf.2.1 hv2 ⟨_, pf.1⟩ pf.2.2.2.1.2.2.2) (by omega) (Nat.le_of_ble_eq_true rfl) ?_
            refine ev_ireturn dX1_repeat_74 rfl ?_
            exact XQ.ok W9 ((Fk.more (S' := S9) (fun x hx => by cases hx)).call F9 (fun x hx => Or.inl hx)) hB9
  · rw [if_neg c9]
    replace W := W.le (Nat.le_succ N)
    refine ev_iload_n dX1_repeat_0 rfl ?_
    refine ev_i2l dX1_repeat_1 ?_
    refine ev_ldc2 (v := 2) dX1_repeat_2 q1407 ?_
    refine ev_ldc2 (v := 9) dX1_repeat_5 q1408 ?_
    refine ev_callSE dX1_repeat_8 cs_X1_108 ce_X1_inRange rfl rfl (k_inRange (d := 0) (a := x) (lo := 2) (hi := 9) (by omega)) (by omega) (Nat.le_of_ble_eq_true rfl) ?_
    refine ev_callS dX1_repeat_11 cs_X1_133 ce_X1_checkArgument rfl rfl (k_checkArgumentF hG (decide_eq_false c9)) (by omega) (by omega) (by omega) (Nat.le_of_ble_eq_true rfl) (fun v h2 q => ?_) (fun E q h2 r => ?_)
    · obtain ⟨q9, e9, -⟩ := q; cases e9
    · obtain ⟨q9, e9, rfl⟩ := r
      cases e9
      exact evx_out rfl (XQ.no (by decide) rfl W (Fr.refl _ []) nil_B)
end Y1S

/-! THE COMPONENT: the class, mirror, reverse (printed by gen) -/
section Y0S
variable {g : GB} {M : MI} {d c k : Nat} {h : HM}
section
variable {Q : RS → HM → Prop} {pc : Nat} {ls : List (Option Value)} {st : List Value}
theorem ev_instMir {idx b κ : Nat} (hG : GKx g) (hd : decode M.2.1 pc = .ok (.instanceof idx, 3)) (hw : (Jvm.Cond.classLink M.1.cls idx "DanceNotation$Mirrored") ∈ lw_all) (hb : ∃ fs, h b = some (.inr (nCi κ, fs))) (kk : Ev g M d c k Q (pc + 3) ls (vz (if κ = 4 then 1 else 0) :: st) h) : Ev g M d c k Q pc ls (.ref b :: st) h := by
  obtain ⟨fs, hb⟩ := hb
  match κ with
  | 0 => rw [if_neg (by omega)] at kk; exact ev_instNZ (i := 61) hG hd hw hb rfl rfl kk
  | 1 => rw [if_neg (by omega)] at kk; exact ev_instNZ (i := 61) hG hd hw hb rfl rfl kk
  | 2 => rw [if_neg (by omega)] at kk; exact ev_instNZ (i := 60) hG hd hw hb rfl rfl kk
  | 3 => rw [if_neg (by omega)] at kk; exact ev_instNZ (i := 59) hG hd hw hb rfl rfl kk
  | 4 => rw [if_pos (by omega)] at kk; exact ev_instYZ hd hw hb rfl rfl kk
  | 5 => rw [if_neg (by omega)] at kk; exact ev_instNZ (i := 62) hG hd hw hb rfl rfl kk
  | κ + 6 => rw [if_neg (by omega)] at kk; exact ev_instNZ (i := 63) hG hd hw hb rfl rfl kk
theorem ev_instRvd {idx b κ : Nat} (hG : GKx g) (hd : decode M.2.1 pc = .ok (.instanceof idx, 3)) (hw : (Jvm.Cond.classLink M.1.cls idx "DanceNotation$Reversed") ∈ lw_all) (hb : ∃ fs, h b = some (.inr (nCi κ, fs))) (kk : Ev g M d c k Q (pc + 3) ls (vz (if κ = 5 then 1 else 0) :: st) h) : Ev g M d c k Q pc ls (.ref b :: st) h := by
  obtain ⟨fs, hb⟩ := hb
  match κ with
  | 0 => rw [if_neg (by omega)] at kk; exact ev_instNZ (i := 66) hG hd hw hb rfl rfl kk
  | 1 => rw [if_neg (by omega)] at kk; exact ev_instNZ (i := 66) hG hd hw hb rfl rfl kk
  | 2 => rw [if_neg (by omega)] at kk; exact ev_instNZ (i := 65) hG hd hw hb rfl rfl kk
  | 3 => rw [if_neg (by omega)] at kk; exact ev_instNZ (i := 64) hG hd hw hb rfl rfl kk
  | 4 => rw [if_neg (by omega)] at kk; exact ev_instNZ (i := 67) hG hd hw hb rfl rfl kk
  | 5 => rw [if_pos (by omega)] at kk; exact ev_instYZ hd hw hb rfl rfl kk
  | κ + 6 => rw [if_neg (by omega)] at kk; exact ev_instNZ (i := 68) hG hd hw hb rfl rfl kk
theorem ev_instPhr {idx b κ : Nat} (hG : GKx g) (hd : decode M.2.1 pc = .ok (.instanceof idx, 3)) (hw : (Jvm.Cond.classLink M.1.cls idx "DanceNotation$Phrase") ∈ lw_all) (hb : ∃ fs, h b = some (.inr (nCi κ, fs))) (kk : Ev g M d c k Q (pc + 3) ls (vz (if κ ≤ 1 then 1 else 0) :: st) h) : Ev g M d c k Q pc ls (.ref b :: st) h := by
  obtain ⟨fs, hb⟩ := hb
  match κ with
  | 0 => rw [if_pos (by omega)] at kk; exact ev_instYZ hd hw hb rfl rfl kk
  | 1 => rw [if_pos (by omega)] at kk; exact ev_instYZ hd hw hb rfl rfl kk
  | 2 => rw [if_neg (by omega)] at kk; exact ev_instNZ (i := 70) hG hd hw hb rfl rfl kk
  | 3 => rw [if_neg (by omega)] at kk; exact ev_instNZ (i := 69) hG hd hw hb rfl rfl kk
  | 4 => rw [if_neg (by omega)] at kk; exact ev_instNZ (i := 71) hG hd hw hb rfl rfl kk
  | 5 => rw [if_neg (by omega)] at kk; exact ev_instNZ (i := 72) hG hd hw hb rfl rfl kk
  | κ + 6 => rw [if_neg (by omega)] at kk; exact ev_instNZ (i := 73) hG hd hw hb rfl rfl kk
end
variable {N : Nat} {B : Nat → Prop} {o : Nat} {σ : Sp}
theorem NodeAt.inner {I : HM} {n a kd : Nat} {nd : Nd} {t : List Nd} (H : NodeAt I (n + 1) a (nd :: t)) (h1 : nd.2.2.1 = 1) (hk : nd.1 = kd) (h3 : kd = 4 ∨ kd = 5) : ∃ q : Nat, I a = some (.inr (nCi kd, [.ref q])) ∧ NodeAt I n q t := by
  obtain ⟨nd', cs, as, e, e2, e3, e4, e5, e6⟩ := H
  cases e
  rw [h1] at e2
  match cs, e2 with
  | [c], _ =>
    match as, e4 with
    | [q], _ =>
      refine ⟨q, ?_, by rw [List.flatten_singleton]; exact e6 0 q c rfl rfl⟩
      obtain ⟨-, -, -, g4, g5, -⟩ := e5
      rcases h3 with rfl | rfl
      · obtain ⟨p, g7, g8⟩ := g4 hk
        cases g7; exact g8
      · obtain ⟨p, g7, g8⟩ := g5 hk
        cases g7; exact g8
theorem val_one {α : Type} (f : Nd → List α → α) (z : α) {n k v : Nat} {l : List Nd} (h : TR n l) : val f z (oneNd k v :: l) = f (oneNd k v) [val f z l] := by
  have := val_node f z (nd := oneNd k v) (cs := [l]) rfl (fun c hc => by rw [List.mem_singleton.mp hc]; exact h)
  rwa [List.flatten_singleton] at this
theorem depV_one {n k v : Nat} {l : List Nd} (h : TR n l) : depV (oneNd k v :: l) = depV l + 1 := by
  unfold depV
  rw [val_one depA 0 h]
  show 1 + max 0 _ = _
  omega
theorem rootK_cons {l : List Nd} {kd : Nat} (h : rootK l = kd) (h3 : 1 ≤ kd) : ∃ nd t, l = nd :: t ∧ nd.1 = kd := by
  cases l with
  | nil => have h' : (0 : Nat) = kd := h; omega
  | cons nd t => exact ⟨nd, t, rfl, h⟩
theorem NodeAt.d81 {J : HM} {n a : Nat} {l : List Nd} (H : NodeAt J n a l) (h : TR 81 l) : NodeAt J 81 a l := NodeAt.down n 81 a l H h
set_option maxRecDepth 100000 in
set_option maxHeartbeats 4000000 in
theorem kx_mirror (hG : GKx g) (K0 : KC g h) (W : WX g N B h o σ) (hO : spOk σ) (hL : dnLn σ.1) (hd : 530 ≤ d) (hc : 40 ≤ c) (hk : 1100 ≤ k) : Kc g mX1_mirror d c k [.ref o] h (XQ g (N + 1) B h o (fun m : Int => "java/lang/IllegalStateException") (opTurn σ 4)) := by
  refine Kc.of (ls := [some (.ref o), none, none]) (by decide +kernel) (Nat.le_of_ble_eq_true rfl) rfl ?_
  obtain ⟨I, own, ⟨pid, a, st, fo⟩, us, cl, ud, uv, uh, ib, iv, ic, os, ow, sdv, scv, lev, cs, HO, WR⟩ := id W
  have HO : h o = some (.inr (0, [.ref a, .ref cl, .ref ud, sdv, scv, .ref ib, .ref os, lev, vz σ.2.2.2.2.2.1, vz σ.2.2.2.2.1])) := HO
  obtain ⟨⟨hBo, ho1, hIo⟩, ⟨hSI, hCI, hBB⟩, KD, KCs, KU, KN, KS, KI, KOu, KE⟩ := id WR
  have H : DnC g I h a st fo σ.1 := KD.1
  have dO := hO.1
  obtain ⟨A, Bf, pv, sv, KDA, hA, hB9, hV⟩ := id H
  obtain ⟨k1, k2, k3, k4, k5, k6, k7, k8⟩ := id KDA
  unfold opTurn
  have WR0 := WR
  have HO0 := HO
  have hSI0 := hSI
  cases hp9 : σ.1.2.2.2 with
  | none =>
    refine ev_aload_n dX1_mirror_0 rfl ?_
    refine ev_callV dX1_mirror_1 cv_X1_209_X1 ce_X1_checkPiece HO rfl rfl rfl (k_checkPieceF H HO hBo hG hp9) (by omega) (by omega) (by omega) (Nat.le_of_ble_eq_true rfl) (fun v h2 q => ?_) (fun E q h2 r => ?_)
    · obtain ⟨q9, e9, -⟩ := q; cases e9
    · obtain ⟨q9, e9, e8, e7⟩ := r
      cases e9
      have W9 : WX g N B h2 o (wReason σ 3) := ⟨I, own, (pid, a, st, fo), us, cl, ud, uv, uh, ib, iv, ic, os, ow, sdv, scv, lev, cs, e8, WR.self e7⟩
      exact evx_out rfl (XQ.no (by decide) rfl (W9.le (Nat.le_succ N)) e7 (fun x hx => by rw [List.mem_singleton.mp hx]; exact WR.nB))
  | some l =>
    rw [hp9] at hV
    obtain ⟨pp, sc, ss, cu, ru, rfl, rfl, hN, SA, SB, ⟨s1, s2, s3, s4, s5, s6, s7⟩, hSA, hSB⟩ := hV
    have pf := pf_dn dO hp9
    replace s1 := hSI _ _ s1
    replace s2 := hSI _ _ s2
    have hcn := (hN.sub hSI).cls
    have hl9 := hL l hp9
    have hN0 := hN
    have hdl := pf.2.2.2.1.2.2.1
    have hd81 := dep_le pf.2.1.1
    have h99 := pf.2.2.1
    have hcu := pf.2.2.2.2.2.1
    dsimp only
    by_cases hr : rootK l = 4
    · rw [if_pos hr]
      obtain ⟨nd, t, rfl, hk4⟩ := rootK_cons hr (by decide)
      have h19 := (pf.2.1.2 nd List.mem_cons_self).2.1 (by omega) (by omega)
      obtain ⟨p9, hc8, hNt0⟩ := hN0.inner h19 hk4 (Or.inl rfl)
      have hc9 := hSI _ _ hc8
      have hNt : NodeAt I 81 p9 t := hNt0.mono (by omega)
      obtain ⟨pt1, P9, pt2, pt3, pt4⟩ := pc_tail (Or.inl hk4) pf.2.1 pf.1
      have pt9 : sem t = .ok (mean t) := by rw [mean_of pt2]; exact pt2
      have hdt := (pt_ok 81 t pt1.1 pt1.2 _ pt2).2.2
      have hdt81 := dep_le pt1.1
      rw [List.length_cons] at hl9
      by_cases c8 : (mean (nd :: t)).1.2.2.1 > 21
      · rw [if_pos c8]
        refine ev_aload_n dX1_mirror_0 rfl ?_
        refine ev_callVN dX1_mirror_1 cv_X1_209_X1 ce_X1_checkPiece HO rfl rfl rfl (k_checkPieceT (d := 0) H HO hBo hp9) (by omega) (Nat.le_of_ble_eq_true rfl) ?_
        refine ev_aload_n dX1_mirror_4 rfl ?_
        refine ev_aload_n dX1_mirror_5 rfl ?_
        refine ev_getf dX1_mirror_6 gf_X1_37_X1 HO rfl ?_
        refine ev_getf dX1_mirror_9 gf_X1_121_X2 k1 rfl ?_
        refine ev_astore_n dX1_mirror_12 (by decide) rfl ?_
        dsimp only [List.set]
        refine ev_aload_n dX1_mirror_13 rfl ?_
        refine ev_instYZ dX1_mirror_14 q2155 hc9 rfl rfl ?_
        refine ev_if_eqZ (tgt := 32) dX1_mirror_17 (by decide) (by omega) (fun c17 => by omega) (fun c17 => ?_)
        refine ev_aload_n dX1_mirror_20 rfl ?_
        refine ev_castY dX1_mirror_21 q2155 hc9 rfl (Or.inl rfl) ?_
        refine ev_astore_n dX1_mirror_24 (by decide) rfl ?_
        dsimp only [List.set]
        refine ev_aload_n dX1_mirror_25 rfl ?_
        refine ev_getf dX1_mirror_26 gf_X1_231_X14 hc9 rfl ?_
        refine ev_goto (tgt := 46) dX1_mirror_29 (by decide) ?_
        refine ev_callV dX1_mirror_46 cv_X1_236_X1 ce_X1_replace HO rfl rfl rfl (k_replaceF hG HO WR ((hNt.mono (by omega))) (by omega) (by omega) (by omega) (Nat.le_refl 520) (Nat.le_refl 30) (Nat.le_refl 1000)) (by omega) (by omega) (by omega) (Nat.le_of_ble_eq_true rfl) (fun v h2 q => ?_) (fun E q h2 r9 => ?_)
        · obtain ⟨q9, e9, -⟩ := q; cases e9
        · obtain ⟨q9, e9, W9, F9⟩ := r9
          cases e9
          exact evx_out rfl (XQ.no (by decide) rfl (W9.le (Nat.le_succ N)) (((Fr.refl (g := g) h []).more (S' := [o]) (fun x hx => by cases hx)).call F9 (fun x hx => Or.inl hx)) (fun x hx => by rw [List.mem_singleton.mp hx]; exact WR.nB))
      · rw [if_neg c8]
        refine ev_aload_n dX1_mirror_0 rfl ?_
        refine ev_callVN dX1_mirror_1 cv_X1_209_X1 ce_X1_checkPiece HO rfl rfl rfl (k_checkPieceT (d := 0) H HO hBo hp9) (by omega) (Nat.le_of_ble_eq_true rfl) ?_
        refine ev_aload_n dX1_mirror_4 rfl ?_
        refine ev_aload_n dX1_mirror_5 rfl ?_
        refine ev_getf dX1_mirror_6 gf_X1_37_X1 HO rfl ?_
        refine ev_getf dX1_mirror_9 gf_X1_121_X2 k1 rfl ?_
        refine ev_astore_n dX1_mirror_12 (by decide) rfl ?_
        dsimp only [List.set]
        refine ev_aload_n dX1_mirror_13 rfl ?_
        refine ev_instYZ dX1_mirror_14 q2155 hc9 rfl rfl ?_
        refine ev_if_eqZ (tgt := 32) dX1_mirror_17 (by decide) (by omega) (fun c17 => by omega) (fun c17 => ?_)
        refine ev_aload_n dX1_mirror_20 rfl ?_
        refine ev_castY dX1_mirror_21 q2155 hc9 rfl (Or.inl rfl) ?_
        refine ev_astore_n dX1_mirror_24 (by decide) rfl ?_
        dsimp only [List.set]
        refine ev_aload_n dX1_mirror_25 rfl ?_
        refine ev_getf dX1_mirror_26 gf_X1_231_X14 hc9 rfl ?_
        refine ev_goto (tgt := 46) dX1_mirror_29 (by decide) ?_
        refine ev_callVR dX1_mirror_46 cv_X1_236_X1 ce_X1_replace HO rfl rfl rfl (k_replaceT hG HO WR (hNt) (pt1) (pt9) (by omega) (by omega) (Nat.le_refl 520) (Nat.le_refl 30) (Nat.le_refl 1000)) (by omega) (by omega) (by omega) (Nat.le_of_ble_eq_true rfl) (fun v1 h9 P1 => ?_)
        obtain ⟨rfl, W9, hS9, S9, F9, hB9⟩ := P1
        refine ev_ireturn dX1_mirror_49 rfl ?_
        have e9 : (((nd :: t).length : Nat) : Int) - 1 = ((t.length : Nat) : Int) := by rw [List.length_cons]; omega
        rw [e9]
        exact XQ.ok W9 F9 hB9
    · rw [if_neg hr]
      by_cases c8 : (mean l).1.2.2.1 + 1 > 20
      · rw [if_pos c8]
        refine ev_aload_n dX1_mirror_0 rfl ?_
        refine ev_callVN dX1_mirror_1 cv_X1_209_X1 ce_X1_checkPiece HO rfl rfl rfl (k_checkPieceT (d := 0) H HO hBo hp9) (by omega) (Nat.le_of_ble_eq_true rfl) ?_
        refine ev_aload_n dX1_mirror_4 rfl ?_
        refine ev_aload_n dX1_mirror_5 rfl ?_
        refine ev_getf dX1_mirror_6 gf_X1_37_X1 HO rfl ?_
        refine ev_getf dX1_mirror_9 gf_X1_121_X2 k1 rfl ?_
        refine ev_astore_n dX1_mirror_12 (by decide) rfl ?_
        dsimp only [List.set]
        refine ev_aload_n dX1_mirror_13 rfl ?_
        refine ev_instMir (κ := rootK l) hG dX1_mirror_14 q2155 (hcn) ?_
        refine ev_if_eqZ (tgt := 32) dX1_mirror_17 (by decide) (by rw [if_neg hr]; omega) (fun c17 => ?_) (fun c17 => absurd (if_neg hr) c17)
        refine ev_newC (c' := 39) (k' := 1090) [.null] dX1_mirror_32 cf_X14 q2155 q1912 q164 rfl (by omega) (by omega) (fun q1 hp_2 e3 B4 Hq1_5 f6 => ?_)
        have HO_7 := (f6 _ (ne_no HO e3)).trans HO
        have k1_8 := (f6 _ (ne_no k1 e3)).trans k1
        have s1_9 := (f6 _ (ne_no s1 e3)).trans s1
        have z10 := ((Fr.refl (g := g) _ [])).fresh e3
        have F11 := ((Fr.refl (g := g) _ [])).alloc (Or.inl ⟨_, Hq1_5⟩) f6 e3
        refine ev_dup dX1_mirror_35 rfl ?_
        refine ev_aload_n dX1_mirror_36 rfl ?_
        refine ev_getf dX1_mirror_37 gf_X1_37_X1 HO_7 rfl ?_
        refine ev_getf dX1_mirror_40 gf_X1_121_X2 k1_8 rfl ?_
        refine ev_callVR dX1_mirror_43 ci_X1_234 ce_X14_init Hq1_5 rfl rfl rfl (k_i14 Hq1_5 B4) (by omega) (by omega) (by omega) (Nat.le_of_ble_eq_true rfl) (fun v12 hk P12 => ?_)
        obtain ⟨rfl, H12, F12⟩ := P12
        have HO_13 := F12.keep HO_7 (by simp only [List.mem_cons, List.not_mem_nil, or_false, not_or]; exact (ne_no HO e3))
        have k1_14 := F12.keep k1_8 (by simp only [List.mem_cons, List.not_mem_nil, or_false, not_or]; exact (ne_no k1 e3))
        have s1_15 := F12.keep s1_9 (by simp only [List.mem_cons, List.not_mem_nil, or_false, not_or]; exact (ne_no s1 e3))
        have F16 := (F11).call F12 (fun x hx => Or.inr (Or.inl (by rw [List.mem_singleton.mp hx]; exact z10)))
        obtain ⟨J1, G1, s1, j1, -⟩ := Gw.ex ((Gw.refl hSI0).fr0 F16) hSI0 H12 z10
        have WR2 := WXr.gw WR0 (by rw [HO0]; exact fun q => by cases q) G1 F16
        have hnd : ndC J1 q1 (oneNd 4 0) [pp] := ⟨fun q => absurd (show (4 : Nat) ≤ 1 from q) (by decide), fun q => absurd (show (4 : Nat) = 2 from q) (by decide), fun q => absurd (show (4 : Nat) = 3 from q) (by decide), fun _ => ⟨pp, rfl, j1⟩, fun q => absurd (show (4 : Nat) = 5 from q) (by decide), fun q => absurd (show 6 ≤ (4 : Nat) from q) (by decide)⟩
        have hN2 : NodeAt J1 82 q1 (oneNd 4 0 :: l) := hN0.one G1.1 rfl (by show 3 ≤ (4 : Nat); omega) hnd
        have HOk := HO_13
        have Fk := F16
        refine ev_callV dX1_mirror_46 cv_X1_236_X1 ce_X1_replace HOk rfl rfl rfl (k_replaceF hG HOk WR2 (hN2) (by rw [List.length_cons]; omega) (by rw [depV_one pf.2.1.1]; omega) (by rw [depV_one pf.2.1.1]; omega) (Nat.le_refl 520) (Nat.le_refl 30) (Nat.le_refl 1000)) (by omega) (by omega) (by omega) (Nat.le_of_ble_eq_true rfl) (fun v h2 q => ?_) (fun E q h2 r9 => ?_)
        · obtain ⟨q9, e9, -⟩ := q; cases e9
        · obtain ⟨q9, e9, W9, F9⟩ := r9
          cases e9
          exact evx_out rfl (XQ.no (by decide) rfl (W9.le (Nat.le_succ N)) ((Fk.more (S' := [o]) (fun x hx => by cases hx)).call F9 (fun x hx => Or.inl hx)) (fun x hx => by rw [List.mem_singleton.mp hx]; exact WR.nB))
      · rw [if_neg c8]
        obtain ⟨pq1, P9, pq2, pq3⟩ := pc_one (k := 4) (v := 0) (by omega) (by omega) (by omega) pf.2.1 pf.1 (by omega) pf.2.2.1 (by rw [if_neg (by decide)]; omega)
        have pq9 : sem (oneNd 4 0 :: l) = .ok (mean (oneNd 4 0 :: l)) := by rw [mean_of pq2]; exact pq2
        refine ev_aload_n dX1_mirror_0 rfl ?_
        refine ev_callVN dX1_mirror_1 cv_X1_209_X1 ce_X1_checkPiece HO rfl rfl rfl (k_checkPieceT (d := 0) H HO hBo hp9) (by omega) (Nat.le_of_ble_eq_true rfl) ?_
        refine ev_aload_n dX1_mirror_4 rfl ?_
        refine ev_aload_n dX1_mirror_5 rfl ?_
        refine ev_getf dX1_mirror_6 gf_X1_37_X1 HO rfl ?_
        refine ev_getf dX1_mirror_9 gf_X1_121_X2 k1 rfl ?_
        refine ev_astore_n dX1_mirror_12 (by decide) rfl ?_
        dsimp only [List.set]
        refine ev_aload_n dX1_mirror_13 rfl ?_
        refine ev_instMir (κ := rootK l) hG dX1_mirror_14 q2155 (hcn) ?_
        refine ev_if_eqZ (tgt := 32) dX1_mirror_17 (by decide) (by rw [if_neg hr]; omega) (fun c17 => ?_) (fun c17 => absurd (if_neg hr) c17)
        refine ev_newC (c' := 39) (k' := 1090) [.null] dX1_mirror_32 cf_X14 q2155 q1912 q164 rfl (by omega) (by omega) (fun q1 hp_2 e3 B4 Hq1_5 f6 => ?_)
        have HO_7 := (f6 _ (ne_no HO e3)).trans HO
        have k1_8 := (f6 _ (ne_no k1 e3)).trans k1
        have s1_9 := (f6 _ (ne_no s1 e3)).trans s1
        have z10 := ((Fr.refl (g := g) _ [])).fresh e3
        have F11 := ((Fr.refl (g := g) _ [])).alloc (Or.inl ⟨_, Hq1_5⟩) f6 e3
        refine ev_dup dX1_mirror_35 rfl ?_
        refine ev_aload_n dX1_mirror_36 rfl ?_
        refine ev_getf dX1_mirror_37 gf_X1_37_X1 HO_7 rfl ?_
        refine ev_getf dX1_mirror_40 gf_X1_121_X2 k1_8 rfl ?_
        refine ev_callVR dX1_mirror_43 ci_X1_234 ce_X14_init Hq1_5 rfl rfl rfl (k_i14 Hq1_5 B4) (by omega) (by omega) (by omega) (Nat.le_of_ble_eq_true rfl) (fun v12 hk P12 => ?_)
        obtain ⟨rfl, H12, F12⟩ := P12
        have HO_13 := F12.keep HO_7 (by simp only [List.mem_cons, List.not_mem_nil, or_false, not_or]; exact (ne_no HO e3))
        have k1_14 := F12.keep k1_8 (by simp only [List.mem_cons, List.not_mem_nil, or_false, not_or]; exact (ne_no k1 e3))
        have s1_15 := F12.keep s1_9 (by simp only [List.mem_cons, List.not_mem_nil, or_false, not_or]; exact (ne_no s1 e3))
        have F16 := (F11).call F12 (fun x hx => Or.inr (Or.inl (by rw [List.mem_singleton.mp hx]; exact z10)))
        obtain ⟨J1, G1, s1, j1, -⟩ := Gw.ex ((Gw.refl hSI0).fr0 F16) hSI0 H12 z10
        have WR2 := WXr.gw WR0 (by rw [HO0]; exact fun q => by cases q) G1 F16
        have hnd : ndC J1 q1 (oneNd 4 0) [pp] := ⟨fun q => absurd (show (4 : Nat) ≤ 1 from q) (by decide), fun q => absurd (show (4 : Nat) = 2 from q) (by decide), fun q => absurd (show (4 : Nat) = 3 from q) (by decide), fun _ => ⟨pp, rfl, j1⟩, fun q => absurd (show (4 : Nat) = 5 from q) (by decide), fun q => absurd (show 6 ≤ (4 : Nat) from q) (by decide)⟩
        have hN2 : NodeAt J1 82 q1 (oneNd 4 0 :: l) := hN0.one G1.1 rfl (by show 3 ≤ (4 : Nat); omega) hnd
        have HOk := HO_13
        have Fk := F16
        refine ev_callVR dX1_mirror_46 cv_X1_236_X1 ce_X1_replace HOk rfl rfl rfl (k_replaceT hG HOk WR2 (hN2.d81 pq1.1) (pq1) (pq9) (by rw [List.length_cons]; omega) (by rw [depV_one pf.2.1.1]; omega) (Nat.le_refl 520) (Nat.le_refl 30) (Nat.le_refl 1000)) (by omega) (by omega) (by omega) (Nat.le_of_ble_eq_true rfl) (fun v17 h9 P17 => ?_)
        obtain ⟨rfl, W9, hS9, S9, F9, hB9⟩ := P17
        refine ev_ireturn dX1_mirror_49 rfl ?_
        have e9 : ((l.length : Nat) : Int) + 1 = (((oneNd 4 0 :: l).length : Nat) : Int) := by rw [List.length_cons]; omega
        rw [e9]
        exact XQ.ok W9 ((Fk.more (S' := S9) (fun x hx => by cases hx)).call F9 (fun x hx => Or.inl hx)) hB9
set_option maxRecDepth 100000 in
set_option maxHeartbeats 4000000 in
theorem kx_reverse (hG : GKx g) (K0 : KC g h) (W : WX g N B h o σ) (hO : spOk σ) (hL : dnLn σ.1) (hd : 530 ≤ d) (hc : 40 ≤ c) (hk : 1100 ≤ k) : Kc g mX1_reverse d c k [.ref o] h (XQ g (N + 1) B h o (fun m : Int => "java/lang/IllegalStateException") (opTurn σ 5)) := by
  refine Kc.of (ls := [some (.ref o), none, none]) (by decide +kernel) (Nat.le_of_ble_eq_true rfl) rfl ?_
  obtain ⟨I, own, ⟨pid, a, st, fo⟩, us, cl, ud, uv, uh, ib, iv, ic, os, ow, sdv, scv, lev, cs, HO, WR⟩ := id W
  have HO : h o = some (.inr (0, [.ref a, .ref cl, .ref ud, sdv, scv, .ref ib, .ref os, lev, vz σ.2.2.2.2.2.1, vz σ.2.2.2.2.1])) := HO
  obtain ⟨⟨hBo, ho1, hIo⟩, ⟨hSI, hCI, hBB⟩, KD, KCs, KU, KN, KS, KI, KOu, KE⟩ := id WR
  have H : DnC g I h a st fo σ.1 := KD.1
  have dO := hO.1
  obtain ⟨A, Bf, pv, sv, KDA, hA, hB9, hV⟩ := id H
  obtain ⟨k1, k2, k3, k4, k5, k6, k7, k8⟩ := id KDA
  unfold opTurn
  have WR0 := WR
  have HO0 := HO
  have hSI0 := hSI
  cases hp9 : σ.1.2.2.2 with
  | none =>
    refine ev_aload_n dX1_reverse_0 rfl ?_
    refine ev_callV dX1_reverse_1 cv_X1_209_X1 ce_X1_checkPiece HO rfl rfl rfl (k_checkPieceF H HO hBo hG hp9) (by omega) (by omega) (by omega) (Nat.le_of_ble_eq_true rfl) (fun v h2 q => ?_) (fun E q h2 r => ?_)
    · obtain ⟨q9, e9, -⟩ := q; cases e9
    · obtain ⟨q9, e9, e8, e7⟩ := r
      cases e9
      have W9 : WX g N B h2 o (wReason σ 3) := ⟨I, own, (pid, a, st, fo), us, cl, ud, uv, uh, ib, iv, ic, os, ow, sdv, scv, lev, cs, e8, WR.self e7⟩
      exact evx_out rfl (XQ.no (by decide) rfl (W9.le (Nat.le_succ N)) e7 (fun x hx => by rw [List.mem_singleton.mp hx]; exact WR.nB))
  | some l =>
    rw [hp9] at hV
    obtain ⟨pp, sc, ss, cu, ru, rfl, rfl, hN, SA, SB, ⟨s1, s2, s3, s4, s5, s6, s7⟩, hSA, hSB⟩ := hV
    have pf := pf_dn dO hp9
    replace s1 := hSI _ _ s1
    replace s2 := hSI _ _ s2
    have hcn := (hN.sub hSI).cls
    have hl9 := hL l hp9
    have hN0 := hN
    have hdl := pf.2.2.2.1.2.2.1
    have hd81 := dep_le pf.2.1.1
    have h99 := pf.2.2.1
    have hcu := pf.2.2.2.2.2.1
    dsimp only
    by_cases hr : rootK l = 5
    · rw [if_pos hr]
      obtain ⟨nd, t, rfl, hk4⟩ := rootK_cons hr (by decide)
      have h19 := (pf.2.1.2 nd List.mem_cons_self).2.1 (by omega) (by omega)
      obtain ⟨p9, hc8, hNt0⟩ := hN0.inner h19 hk4 (Or.inr rfl)
      have hc9 := hSI _ _ hc8
      have hNt : NodeAt I 81 p9 t := hNt0.mono (by omega)
      obtain ⟨pt1, P9, pt2, pt3, pt4⟩ := pc_tail (Or.inr hk4) pf.2.1 pf.1
      have pt9 : sem t = .ok (mean t) := by rw [mean_of pt2]; exact pt2
      have hdt := (pt_ok 81 t pt1.1 pt1.2 _ pt2).2.2
      have hdt81 := dep_le pt1.1
      rw [List.length_cons] at hl9
      by_cases c8 : (mean (nd :: t)).1.2.2.1 > 21
      · rw [if_pos c8]
        refine ev_aload_n dX1_reverse_0 rfl ?_
        refine ev_callVN dX1_reverse_1 cv_X1_209_X1 ce_X1_checkPiece HO rfl rfl rfl (k_checkPieceT (d := 0) H HO hBo hp9) (by omega) (Nat.le_of_ble_eq_true rfl) ?_
        refine ev_aload_n dX1_reverse_4 rfl ?_
        refine ev_aload_n dX1_reverse_5 rfl ?_
        refine ev_getf dX1_reverse_6 gf_X1_37_X1 HO rfl ?_
        refine ev_getf dX1_reverse_9 gf_X1_121_X2 k1 rfl ?_
        refine ev_astore_n dX1_reverse_12 (by decide) rfl ?_
        dsimp only [List.set]
        refine ev_aload_n dX1_reverse_13 rfl ?_
        refine ev_instYZ dX1_reverse_14 q2189 hc9 rfl rfl ?_
        refine ev_if_eqZ (tgt := 32) dX1_reverse_17 (by decide) (by omega) (fun c17 => by omega) (fun c17 => ?_)
        refine ev_aload_n dX1_reverse_20 rfl ?_
        refine ev_castY dX1_reverse_21 q2189 hc9 rfl (Or.inl rfl) ?_
        refine ev_astore_n dX1_reverse_24 (by decide) rfl ?_
        dsimp only [List.set]
        refine ev_aload_n dX1_reverse_25 rfl ?_
        refine ev_getf dX1_reverse_26 gf_X1_242_X15 hc9 rfl ?_
        refine ev_goto (tgt := 46) dX1_reverse_29 (by decide) ?_
        refine ev_callV dX1_reverse_46 cv_X1_236_X1 ce_X1_replace HO rfl rfl rfl (k_replaceF hG HO WR ((hNt.mono (by omega))) (by omega) (by omega) (by omega) (Nat.le_refl 520) (Nat.le_refl 30) (Nat.le_refl 1000)) (by omega) (by omega) (by omega) (Nat.le_of_ble_eq_true rfl) (fun v h2 q => ?_) (fun E q h2 r9 => ?_)
        · obtain ⟨q9, e9, -⟩ := q; cases e9
        · obtain ⟨q9, e9, W9, F9⟩ := r9
          cases e9
          exact evx_out rfl (XQ.no (by decide) rfl (W9.le (Nat.le_succ N)) (((Fr.refl (g := g) h []).more (S' := [o]) (fun x hx => by cases hx)).call F9 (fun x hx => Or.inl hx)) (fun x hx => by rw [List.mem_singleton.mp hx]; exact WR.nB))
      · rw [if_neg c8]
        refine ev_aload_n dX1_reverse_0 rfl ?_
        refine ev_callVN dX1_reverse_1 cv_X1_209_X1 ce_X1_checkPiece HO rfl rfl rfl (k_checkPieceT (d := 0) H HO hBo hp9) (by omega) (Nat.le_of_ble_eq_true rfl) ?_
        refine ev_aload_n dX1_reverse_4 rfl ?_
        refine ev_aload_n dX1_reverse_5 rfl ?_
        refine ev_getf dX1_reverse_6 gf_X1_37_X1 HO rfl ?_
        refine ev_getf dX1_reverse_9 gf_X1_121_X2 k1 rfl ?_
        refine ev_astore_n dX1_reverse_12 (by decide) rfl ?_
        dsimp only [List.set]
        refine ev_aload_n dX1_reverse_13 rfl ?_
        refine ev_instYZ dX1_reverse_14 q2189 hc9 rfl rfl ?_
        refine ev_if_eqZ (tgt := 32) dX1_reverse_17 (by decide) (by omega) (fun c17 => by omega) (fun c17 => ?_)
        refine ev_aload_n dX1_reverse_20 rfl ?_
        refine ev_castY dX1_reverse_21 q2189 hc9 rfl (Or.inl rfl) ?_
        refine ev_astore_n dX1_reverse_24 (by decide) rfl ?_
        dsimp only [List.set]
        refine ev_aload_n dX1_reverse_25 rfl ?_
        refine ev_getf dX1_reverse_26 gf_X1_242_X15 hc9 rfl ?_
        refine ev_goto (tgt := 46) dX1_reverse_29 (by decide) ?_
        refine ev_callVR dX1_reverse_46 cv_X1_236_X1 ce_X1_replace HO rfl rfl rfl (k_replaceT hG HO WR (hNt) (pt1) (pt9) (by omega) (by omega) (Nat.le_refl 520) (Nat.le_refl 30) (Nat.le_refl 1000)) (by omega) (by omega) (by omega) (Nat.le_of_ble_eq_true rfl) (fun v1 h9 P1 => ?_)
        obtain ⟨rfl, W9, hS9, S9, F9, hB9⟩ := P1
        refine ev_ireturn dX1_reverse_49 rfl ?_
        have e9 : (((nd :: t).length : Nat) : Int) - 1 = ((t.length : Nat) : Int) := by rw [List.length_cons]; omega
        rw [e9]
        exact XQ.ok W9 F9 hB9
    · rw [if_neg hr]
      by_cases c8 : (mean l).1.2.2.1 + 1 > 20
      · rw [if_pos c8]
        refine ev_aload_n dX1_reverse_0 rfl ?_
        refine ev_callVN dX1_reverse_1 cv_X1_209_X1 ce_X1_checkPiece HO rfl rfl rfl (k_checkPieceT (d := 0) H HO hBo hp9) (by omega) (Nat.le_of_ble_eq_true rfl) ?_
        refine ev_aload_n dX1_reverse_4 rfl ?_
        refine ev_aload_n dX1_reverse_5 rfl ?_
        refine ev_getf dX1_reverse_6 gf_X1_37_X1 HO rfl ?_
        refine ev_getf dX1_reverse_9 gf_X1_121_X2 k1 rfl ?_
        refine ev_astore_n dX1_reverse_12 (by decide) rfl ?_
        dsimp only [List.set]
        refine ev_aload_n dX1_reverse_13 rfl ?_
        refine ev_instRvd (κ := rootK l) hG dX1_reverse_14 q2189 (hcn) ?_
        refine ev_if_eqZ (tgt := 32) dX1_reverse_17 (by decide) (by rw [if_neg hr]; omega) (fun c17 => ?_) (fun c17 => absurd (if_neg hr) c17)
        refine ev_newC (c' := 39) (k' := 1090) [.null] dX1_reverse_32 cf_X15 q2189 q1937 q165 rfl (by omega) (by omega) (fun q1 hp_2 e3 B4 Hq1_5 f6 => ?_)
        have HO_7 := (f6 _ (ne_no HO e3)).trans HO
        have k1_8 := (f6 _ (ne_no k1 e3)).trans k1
        have s1_9 := (f6 _ (ne_no s1 e3)).trans s1
        have z10 := ((Fr.refl (g := g) _ [])).fresh e3
        have F11 := ((Fr.refl (g := g) _ [])).alloc (Or.inl ⟨_, Hq1_5⟩) f6 e3
        refine ev_dup dX1_reverse_35 rfl ?_
        refine ev_aload_n dX1_reverse_36 rfl ?_
        refine ev_getf dX1_reverse_37 gf_X1_37_X1 HO_7 rfl ?_
        refine ev_getf dX1_reverse_40 gf_X1_121_X2 k1_8 rfl ?_
        refine ev_callVR dX1_reverse_43 ci_X1_243 ce_X15_init Hq1_5 rfl rfl rfl (k_i15 Hq1_5 B4) (by omega) (by omega) (by omega) (Nat.le_of_ble_eq_true rfl) (fun v12 hk P12 => ?_)
        obtain ⟨rfl, H12, F12⟩ := P12
        have HO_13 := F12.keep HO_7 (by simp only [List.mem_cons, List.not_mem_nil, or_false, not_or]; exact (ne_no HO e3))
        have k1_14 := F12.keep k1_8 (by simp only [List.mem_cons, List.not_mem_nil, or_false, not_or]; exact (ne_no k1 e3))
        have s1_15 := F12.keep s1_9 (by simp only [List.mem_cons, List.not_mem_nil, or_false, not_or]; exact (ne_no s1 e3))
        have F16 := (F11).call F12 (fun x hx => Or.inr (Or.inl (by rw [List.mem_singleton.mp hx]; exact z10)))
        obtain ⟨J1, G1, s1, j1, -⟩ := Gw.ex ((Gw.refl hSI0).fr0 F16) hSI0 H12 z10
        have WR2 := WXr.gw WR0 (by rw [HO0]; exact fun q => by cases q) G1 F16
        have hnd : ndC J1 q1 (oneNd 5 0) [pp] := ⟨fun q => absurd (show (5 : Nat) ≤ 1 from q) (by decide), fun q => absurd (show (5 : Nat) = 2 from q) (by decide), fun q => absurd (show (5 : Nat) = 3 from q) (by decide), fun q => absurd (show (5 : Nat) = 4 from q) (by decide), fun _ => ⟨pp, rfl, j1⟩, fun q => absurd (show 6 ≤ (5 : Nat) from q) (by decide)⟩
        have hN2 : NodeAt J1 82 q1 (oneNd 5 0 :: l) := hN0.one G1.1 rfl (by show 3 ≤ (5 : Nat); omega) hnd
        have HOk := HO_13
        have Fk := F16
        refine ev_callV dX1_reverse_46 cv_X1_236_X1 ce_X1_replace HOk rfl rfl rfl (k_replaceF hG HOk WR2 (hN2) (by rw [List.length_cons]; omega) (by rw [depV_one pf.2.1.1]; omega) (by rw [depV_one pf.2.1.1]; omega) (Nat.le_refl 520) (Nat.le_refl 30) (Nat.le_refl 1000)) (by omega) (by omega) (by omega) (Nat.le_of_ble_eq_true rfl) (fun v h2 q => ?_) (fun E q h2 r9 => ?_)
        · obtain ⟨q9, e9, -⟩ := q; cases e9
        · obtain ⟨q9, e9, W9, F9⟩ := r9
          cases e9
          exact evx_out rfl (XQ.no (by decide) rfl (W9.le (Nat.le_succ N)) ((Fk.more (S' := [o]) (fun x hx => by cases hx)).call F9 (fun x hx => Or.inl hx)) (fun x hx => by rw [List.mem_singleton.mp hx]; exact WR.nB))
      · rw [if_neg c8]
        obtain ⟨pq1, P9, pq2, pq3⟩ := pc_one (k := 5) (v := 0) (by omega) (by omega) (by omega) pf.2.1 pf.1 (by omega) pf.2.2.1 (by rw [if_neg (by decide)]; omega)
        have pq9 : sem (oneNd 5 0 :: l) = .ok (mean (oneNd 5 0 :: l)) := by rw [mean_of pq2]; exact pq2
        refine ev_aload_n dX1_reverse_0 rfl ?_
        refine ev_callVN dX1_reverse_1 cv_X1_209_X1 ce_X1_checkPiece HO rfl rfl rfl (k_checkPieceT (d := 0) H HO hBo hp9) (by omega) (Nat.le_of_ble_eq_true rfl) ?_
        refine ev_aload_n dX1_reverse_4 rfl ?_
        refine ev_aload_n dX1_reverse_5 rfl ?_
        refine ev_getf dX1_reverse_6 gf_X1_37_X1 HO rfl ?_
        refine ev_getf dX1_reverse_9 gf_X1_121_X2 k1 rfl ?_
        refine ev_astore_n dX1_reverse_12 (by decide) rfl ?_
        dsimp only [List.set]
        refine ev_aload_n dX1_reverse_13 rfl ?_
        refine ev_instRvd (κ := rootK l) hG dX1_reverse_14 q2189 (hcn) ?_
        refine ev_if_eqZ (tgt := 32) dX1_reverse_17 (by decide) (by rw [if_neg hr]; omega) (fun c17 => ?_) (fun c17 => absurd (if_neg hr) c17)
        refine ev_newC (c' := 39) (k' := 1090) [.null] dX1_reverse_32 cf_X15 q2189 q1937 q165 rfl (by omega) (by omega) (fun q1 hp_2 e3 B4 Hq1_5 f6 => ?_)
        have HO_7 := (f6 _ (ne_no HO e3)).trans HO
        have k1_8 := (f6 _ (ne_no k1 e3)).trans k1
        have s1_9 := (f6 _ (ne_no s1 e3)).trans s1
        have z10 := ((Fr.refl (g := g) _ [])).fresh e3
        have F11 := ((Fr.refl (g := g) _ [])).alloc (Or.inl ⟨_, Hq1_5⟩) f6 e3
        refine ev_dup dX1_reverse_35 rfl ?_
        refine ev_aload_n dX1_reverse_36 rfl ?_
        refine ev_getf dX1_reverse_37 gf_X1_37_X1 HO_7 rfl ?_
        refine ev_getf dX1_reverse_40 gf_X1_121_X2 k1_8 rfl ?_
        refine ev_callVR dX1_reverse_43 ci_X1_243 ce_X15_init Hq1_5 rfl rfl rfl (k_i15 Hq1_5 B4) (by omega) (by omega) (by omega) (Nat.le_of_ble_eq_true rfl) (fun v12 hk P12 => ?_)
        obtain ⟨rfl, H12, F12⟩ := P12
        have HO_13 := F12.keep HO_7 (by simp only [List.mem_cons, List.not_mem_nil, or_false, not_or]; exact (ne_no HO e3))
        have k1_14 := F12.keep k1_8 (by simp only [List.mem_cons, List.not_mem_nil, or_false, not_or]; exact (ne_no k1 e3))
        have s1_15 := F12.keep s1_9 (by simp only [List.mem_cons, List.not_mem_nil, or_false, not_or]; exact (ne_no s1 e3))
        have F16 := (F11).call F12 (fun x hx => Or.inr (Or.inl (by rw [List.mem_singleton.mp hx]; exact z10)))
        obtain ⟨J1, G1, s1, j1, -⟩ := Gw.ex ((Gw.refl hSI0).fr0 F16) hSI0 H12 z10
        have WR2 := WXr.gw WR0 (by rw [HO0]; exact fun q => by cases q) G1 F16
        have hnd : ndC J1 q1 (oneNd 5 0) [pp] := ⟨fun q => absurd (show (5 : Nat) ≤ 1 from q) (by decide), fun q => absurd (show (5 : Nat) = 2 from q) (by decide), fun q => absurd (show (5 : Nat) = 3 from q) (by decide), fun q => absurd (show (5 : Nat) = 4 from q) (by decide), fun _ => ⟨pp, rfl, j1⟩, fun q => absurd (show 6 ≤ (5 : Nat) from q) (by decide)⟩
        have hN2 : NodeAt J1 82 q1 (oneNd 5 0 :: l) := hN0.one G1.1 rfl (by show 3 ≤ (5 : Nat); omega) hnd
        have HOk := HO_13
        have Fk := F16
        refine ev_callVR dX1_reverse_46 cv_X1_236_X1 ce_X1_replace HOk rfl rfl rfl (k_replaceT hG HOk WR2 (hN2.d81 pq1.1) (pq1) (pq9) (by rw [List.length_cons]; omega) (by rw [depV_one pf.2.1.1]; omega) (Nat.le_refl 520) (Nat.le_refl 30) (Nat.le_refl 1000)) (by omega) (by omega) (by omega) (Nat.le_of_ble_eq_true rfl) (fun v17 h9 P17 => ?_)
        obtain ⟨rfl, W9, hS9, S9, F9, hB9⟩ := P17
        refine ev_ireturn dX1_reverse_49 rfl ?_
        have e9 : ((l.length : Nat) : Int) + 1 = (((oneNd 5 0 :: l).length : Nat) : Int) := by rw [List.length_cons]; omega
        rw [e9]
        exact XQ.ok W9 ((Fk.more (S' := S9) (fun x hx => by cases hx)).call F9 (fun x hx => Or.inl hx)) hB9
end Y0S

/-! THE COMPONENT: the class, snapshot, restore (printed by gen) -/
section Y5S
variable {g : GB} {M : MI} {d c k : Nat} {h : HM}
section
variable {N : Nat} {B : Nat → Prop} {I J h h' : HM} {own : Nat → Nat} {o : Nat} {p : Dp} {us : List Dp} {cl ud uv uh ib iv ic os ow : Nat} {sdv scv lev : Value} {cs : List Cm} {σ : Sp}
/-- another saved dance -/
theorem WXr.sav (K : WXr g N B I h own o p us cl ud uv uh ib iv ic os ow sdv scv lev cs σ) (HO : h o ≠ none) {own' : Nat → Nat} {h5 : HM} {sdv' scv' : Value} {x : Option Dn} (F : Fr g h h5 [o]) (ho : ownK h own own') (H : SvW g N I h5 own' sdv' scv' x) : WXr g N B I h5 own' o p us cl ud uv uh ib iv ic os ow sdv' scv' lev cs (σ.1, σ.2.1, x, σ.2.2.2) := by
  obtain ⟨a, ⟨b1, b2, b3⟩, c, ⟨d1, d2⟩, e, ⟨n1, n2⟩, s, i, u, r⟩ := K
  have G : Gw I h I h5 := (Gw.refl b1).fr F (fun x hx => Or.inl (by rw [List.mem_singleton.mp hx]; exact a.2.2))
  have key : ∀ m : Nat, m ≠ 1 → ∀ x ∈ [o], own x ≠ m := fun m hm x hx q => hm (by rw [List.mem_singleton.mp hx, a.2.1] at q; exact q.symm)
  exact ⟨⟨a.1, (ho o HO).trans a.2.1, a.2.2⟩, ⟨G.2.1, b2, fun x hx => ⟨(ho x (b3 x hx).2.1).trans (b3 x hx).1, F.1 x (b3 x hx).2.1, (b3 x hx).2.2⟩⟩, c.mv G F (key _ (by have := n2 p List.mem_cons_self; omega)) ho, ⟨d1.mv G F (key 2 (by decide)) ho, d2⟩, e.mv G F (fun x hx => ⟨key 3 (by decide) x hx, fun q hq => key _ (by have := n2 q (List.mem_cons_of_mem _ hq); omega) x hx⟩) ho, ⟨n1, n2⟩, H, i.mv G F (key 6 (by decide)) ho, u.mv G F (fun x hx => by rw [List.mem_singleton.mp hx]; exact a.2.2), r⟩
theorem CsW.copy {own' : Nat → Nat} {h5 : HM} {r' a2 : Nat} {m : Int} {D : Dn} {L L1 : List (Nat × Nat)} (hL1 : L.length = cs.length) (hL2 : ∀ (i q x : Nat) (C : Cm), L[i]? = some (q, x) → cs[i]? = some C → CmC g I x C ∧ cmOk C) (d3 : rpl D.1 cs = D) (hm : L1.map Prod.snd = L.map Prod.snd) (H : LLh g h5 a2 m L1) (hlab : ∀ x ∈ a2 :: L1.map Prod.fst, own' x = r' ∧ I x = none) : CsW g I h5 own' r' a2 D cs := by
  refine ⟨m, L1, H, hlab, ?_, fun i q x C g1 g2 => ?_, d3⟩
  · have := congrArg List.length hm
    rw [List.length_map, List.length_map] at this
    omega
  · have h1 : (L1.map Prod.snd)[i]? = some x := by rw [List.getElem?_map, g1]; rfl
    rw [hm, List.getElem?_map] at h1
    cases e : L[i]? with
    | none => rw [e] at h1; cases h1
    | some y =>
      rw [e] at h1
      obtain ⟨y1, y2⟩ := y
      cases h1
      exact hL2 i y1 _ C e g2
theorem cms_o {L : List (Nat × Nat)} (hL1 : L.length = cs.length) (hL2 : ∀ (i q x : Nat) (C : Cm), L[i]? = some (q, x) → cs[i]? = some C → CmC g I x C ∧ cmOk C) {h3 : HM} (hI : Sub I h3) : ∀ e ∈ L.map Prod.snd, isO h3 e := fun e he => by
  obtain ⟨y, hy, rfl⟩ := List.mem_map.mp he
  obtain ⟨i, hi⟩ := List.getElem?_of_mem hy
  obtain ⟨y1, y2⟩ := y
  obtain ⟨C, hC⟩ : ∃ C, cs[i]? = some C := ⟨_, List.getElem?_eq_getElem (by have := lt_of_getE hi; omega)⟩
  obtain ⟨fs, hf⟩ := (hL2 i y1 y2 C hi hC).1.cls
  exact Or.inl ⟨_, hI _ _ hf⟩
/-- labels of a copied dance and a copied list -/
def ow2 (own : Nat → Nat) (q st fo R a2 R2 : Nat) (L : List (Nat × Nat)) : Nat → Nat := fun x => if x ∈ dnS q st fo then R else if x ∈ a2 :: L.map Prod.fst then R2 else own x
theorem ow2_K {q st fo R a2 R2 : Nat} {L : List (Nat × Nat)} (h1 : ∀ x ∈ dnS q st fo, h x = none) (h2 : ∀ x ∈ a2 :: L.map Prod.fst, h x = none) : ownK h own (ow2 own q st fo R a2 R2 L) := fun x hx => by
  unfold ow2
  rw [if_neg (fun e => hx (h1 x e)), if_neg (fun e => hx (h2 x e))]
theorem ow2_D {q st fo R a2 R2 : Nat} {L : List (Nat × Nat)} {h5 : HM} {D : Dn} (KD : DnC g I h5 q st fo D) (hz : ∀ x ∈ dnS q st fo, h x = none) (hI : Sub I h) : DnW g I h5 (ow2 own q st fo R a2 R2 L) (R, q, st, fo) D := ⟨KD, fun x hx => ⟨if_pos hx, by
  cases e : I x with
  | none => rfl
  | some y => have := hI _ _ e; rw [hz x hx] at this; cases this⟩⟩
theorem ow2_L {q st fo R a2 R2 : Nat} {L : List (Nat × Nat)} (hz : ∀ x ∈ a2 :: L.map Prod.fst, h x = none) (hn : ∀ x ∈ a2 :: L.map Prod.fst, x ∉ dnS q st fo) (hI : Sub I h) : ∀ x ∈ a2 :: L.map Prod.fst, (ow2 own q st fo R a2 R2 L) x = R2 ∧ I x = none := fun x hx => by
  refine ⟨?_, ?_⟩
  · unfold ow2; rw [if_neg (hn x hx), if_pos hx]
  · cases e : I x with
    | none => rfl
    | some y => have := hI _ _ e; rw [hz x hx] at this; cases this
end
variable {N : Nat} {B : Nat → Prop} {o : Nat} {σ : Sp}
set_option maxRecDepth 100000 in
set_option maxHeartbeats 4000000 in
theorem kx_snapshot (hG : GKx g) (K0 : KC g h) (W : WX g N B h o σ) (hO : spOk σ) (hN9 : N ≤ 1000) (hd : 20 ≤ d) (hc : 1100 ≤ c) (hk : 5000 ≤ k) : Kc g mX1_snapshot d c k [.ref o] h (XQ g N B h o (fun m : Int => "java/lang/IllegalStateException") (opSnap σ)) := by
  refine Kc.of (ls := [some (.ref o)]) (by decide +kernel) (Nat.le_of_ble_eq_true rfl) rfl ?_
  obtain ⟨I, own, ⟨pid, a, st, fo⟩, us, cl, ud, uv, uh, ib, iv, ic, os, ow, sdv, scv, lev, cs, HO, WR⟩ := id W
  have HO : h o = some (.inr (0, [.ref a, .ref cl, .ref ud, sdv, scv, .ref ib, .ref os, lev, vz σ.2.2.2.2.2.1, vz σ.2.2.2.2.1])) := HO
  obtain ⟨⟨hBo, ho1, hIo⟩, ⟨hSI, hCI, hBB⟩, KD, KCs, KU, KN, KS, KI, KOu, KE⟩ := id WR
  have H : DnC g I h a st fo σ.1 := KD.1
  have dO := hO.1
  obtain ⟨A, Bf, pv, sv, KDA, hA, hB9, hV⟩ := id H
  obtain ⟨k1, k2, k3, k4, k5, k6, k7, k8⟩ := id KDA
  obtain ⟨⟨mc0, L, kL, hL0, hL1, hL2, d3⟩, hcN⟩ := id KCs
  obtain ⟨hS2, hoS⟩ := WR.ne2
  obtain ⟨e1, e2, e3, e4, e5, e6⟩ := id KU
  have hp10 := KN.2 _ List.mem_cons_self
  unfold opSnap
  have hot : o ∉ cl :: L.map Prod.fst := fun e => by have := (hL0 o e).1; rw [ho1] at this; cases this
  have hLo := fun {h3 : HM} => cms_o (h3 := h3) hL1 hL2
  have hr9 : ∀ e : Nat, e < 8 → inR (σ.1.2.1 e) := fun e he => by have := st_lt dO he; omega
  have KDW9 := KD
  refine ev_aload_n dX1_snapshot_0 rfl ?_
  refine ev_aload_n dX1_snapshot_1 rfl ?_
  refine ev_getf dX1_snapshot_2 gf_X1_37_X1 HO rfl ?_
  refine ev_callVR dX1_snapshot_5 cv_X1_79_X2 ce_X2_copy k1 rfl rfl rfl (k_copyX2 H hG) (by omega) (by omega) (by omega) (Nat.le_of_ble_eq_true rfl) (fun v1 h1 P1 => ?_)
  obtain ⟨q, st2, fo2, rfl, KD, F1, hqB, hz⟩ := P1
  have HO1 := F1.keep HO (fun q => by cases q)
  have F1b : Fr g h h1 [o] := F1.more (fun x hx => by cases hx)
  refine ev_putC [.ref a, .ref cl, .ref ud, .ref q, scv, .ref ib, .ref os, lev, vz σ.2.2.2.2.2.1, vz σ.2.2.2.2.1] dX1_snapshot_8 gf_X1_389_X1 HO1 hBo (Or.inl rfl) rfl rfl (Nat.le_of_ble_eq_true rfl) rfl (fun hp_2 HO1_3 f4 => ?_)
  have F5 := (F1b).write (Or.inl ⟨_, HO1_3⟩) f4 hBo (by simp)
  have HO2 := HO1_3
  have Fo2 := (Fr.refl (g := g) h1 [o]).write (Or.inl ⟨_, HO2⟩) f4 hBo (by simp)
  have hoq : ∀ x ∈ dnS q st2 fo2, x ≠ o := fun x hx e => by have := hz x hx; rw [e, HO] at this; cases this
  have KD2 := KD.fr Fo2 (fun x hx e => hoq x e (List.mem_singleton.mp hx))
  have Fh2 := (F1.more (S' := [o]) (fun x hx => by cases hx)).call Fo2 (fun x hx => Or.inl hx)
  have kL2 := kL.fr Fh2 (fun x hx => by rw [List.mem_singleton.mp hx]; exact ⟨fun e => hot (by rw [e]; exact List.mem_cons_self), fun e => hot (List.mem_cons_of_mem _ e)⟩)
  have hI2 := hSI.fr Fh2 (fun x hx => Or.inl (by rw [List.mem_singleton.mp hx]; exact hIo))
  refine ev_aload_n dX1_snapshot_11 rfl ?_
  refine ev_newC (c' := 1090) (k' := 4900) [vz 0, vz 0, .null, .null] dX1_snapshot_12 cf_J3 q229 q230 q123 rfl (by omega) (by omega) (fun q6 hp_7 e8 B9 Hq6_10 f11 => ?_)
  have HO1_12 := (f11 _ (ne_no HO1_3 e8)).trans HO1_3
  have z13 := (F5).fresh e8
  have F14 := (F5).alloc (Or.inl ⟨_, Hq6_10⟩) f11 e8
  refine ev_dup dX1_snapshot_15 rfl ?_
  refine ev_aload_n dX1_snapshot_16 rfl ?_
  refine ev_getf dX1_snapshot_17 gf_X1_44_X1 HO1_12 rfl ?_
  have Fn : Fr g hp_2 hp_7 [] := (Fr.refl (g := g) hp_2 []).alloc (Or.inl ⟨_, Hq6_10⟩) f11 e8
  have kL3 := kL2.fr Fn (fun x hx => by cases hx)
  have hI3 := hI2.fr0 Fn
  have ha2 : hp_2 q6 = none := e8
  have KD3 := KD2.fr Fn (fun x hx => by cases hx)
  refine ev_callVR dX1_snapshot_20 ci_X1_392 ce_J3_init_2 Hq6_10 rfl rfl rfl (ll_copy hG Hq6_10 B9 kL3 (fun e => kL2.nz List.mem_cons_self (by rw [← e]; exact ha2)) (by omega) (hLo hI3) (fun e => kL2.nz (List.mem_cons_of_mem _ e) ha2)) (by omega) (by omega) (by omega) (Nat.le_of_ble_eq_true rfl) (fun v15 h2 P15 => ?_)
  obtain ⟨rfl, m9, L9, hm9, hfr9, him9, hLL, F2⟩ := P15
  have F2b := (F14).call F2 (fun x hx => Or.inr (Or.inl (by rw [List.mem_singleton.mp hx]; exact z13)))
  have hoa : o ≠ q6 := fun e => by rw [← e, HO] at z13; cases z13
  have HO3 := F2.keep HO1_12 (fun e => hoa (List.mem_singleton.mp e))
  have hqa : q6 ∉ dnS q st2 fo2 := fun e => KD2.nz e ha2
  have hf9 : ∀ x ∈ L9.map Prod.fst, h x = none := fun x hx => (F14).fresh (hfr9 x hx)
  have hq9 : ∀ x ∈ L9.map Prod.fst, x ∉ dnS q st2 fo2 := fun x hx e => KD3.nz e (hfr9 x hx)
  have KD4 := KD3.fr F2 (fun x hx e => hqa (by rw [← List.mem_singleton.mp hx]; exact e))
  refine ev_putC [.ref a, .ref cl, .ref ud, .ref q, .ref q6, .ref ib, .ref os, lev, vz σ.2.2.2.2.2.1, vz σ.2.2.2.2.1] dX1_snapshot_23 gf_X1_395_X1 HO3 hBo (Or.inl rfl) rfl rfl (Nat.le_of_ble_eq_true rfl) rfl (fun hp_16 HO3_17 f18 => ?_)
  have F19 := (F2b).write (Or.inl ⟨_, HO3_17⟩) f18 hBo (by simp)
  have HO4 := HO3_17
  have Fo4 := (Fr.refl (g := g) h2 [o]).write (Or.inl ⟨_, HO4⟩) f18 hBo (by simp)
  have ho9 : o ∉ L9.map Prod.fst := fun e => by have := hf9 o e; rw [HO] at this; cases this
  have hLL4 := hLL.fr Fo4 (fun x hx => by rw [List.mem_singleton.mp hx]; exact ⟨hoa, ho9⟩)
  have KD5 := KD4.fr Fo4 (fun x hx e => hoq x e (List.mem_singleton.mp hx))
  refine ev_aload_n dX1_snapshot_26 rfl ?_
  refine ev_getf dX1_snapshot_27 gf_X1_37_X1 HO3_17 rfl ?_
  have HPa := H.fr (F19) (fun x hx e => by have := (KDW9.2 x e).1; rw [List.mem_singleton.mp hx, ho1] at this; omega)
  obtain ⟨fsa, hca⟩ := HPa.cls
  refine ev_callVE dX1_snapshot_30 cv_X1_398_X2 ce_X2_participants hca rfl rfl rfl (k_partsX2 (d := 0) HPa hr9) (by omega) (Nat.le_of_ble_eq_true rfl) ?_
  refine ev_ireturn dX1_snapshot_33 rfl ?_
  have hz2 : ∀ x ∈ q6 :: L9.map Prod.fst, h x = none := fun x hx => by
    rcases List.mem_cons.mp hx with e | e
    · rw [e]; exact z13
    · exact hf9 x e
  have hn2 : ∀ x ∈ q6 :: L9.map Prod.fst, x ∉ dnS q st2 fo2 := fun x hx => by
    rcases List.mem_cons.mp hx with e | e
    · rw [e]; exact hqa
    · exact hq9 x e
  have WR2 := WXr.sav WR (by rw [HO]; exact fun q => by cases q) (F19) (ow2_K hz hz2) (x := some σ.1) ⟨(4, q, st2, fo2), q6, cs, rfl, rfl, ow2_D (own := own) (R := 4) (R2 := 5) KD5 hz hSI, rfl, CsW.copy hL1 hL2 d3 hm9 hLL4 (ow2_L hz2 hn2 hSI), hcN⟩
  exact XQ.ok ⟨I, _, _, us, cl, ud, uv, uh, ib, iv, ic, os, ow, _, _, lev, cs, HO3_17, WR2⟩ (F19) (fun x hx => by rw [List.mem_singleton.mp hx]; exact WR.nB)
set_option maxRecDepth 100000 in
set_option maxHeartbeats 4000000 in
theorem kx_restore (hG : GKx g) (K0 : KC g h) (W : WX g N B h o σ) (hO : spOk σ) (hN9 : N ≤ 1000) (hd : 20 ≤ d) (hc : 1100 ≤ c) (hk : 5000 ≤ k) : Kc g mX1_restore d c k [.ref o] h (XQ g (N + 1) B h o (fun m : Int => "java/lang/IllegalStateException") (opRestore σ)) := by
  refine Kc.of (ls := [some (.ref o)]) (by decide +kernel) (Nat.le_of_ble_eq_true rfl) rfl ?_
  obtain ⟨I, own, ⟨pid, a, st, fo⟩, us, cl, ud, uv, uh, ib, iv, ic, os, ow, sdv, scv, lev, cs, HO, WR⟩ := id W
  have HO : h o = some (.inr (0, [.ref a, .ref cl, .ref ud, sdv, scv, .ref ib, .ref os, lev, vz σ.2.2.2.2.2.1, vz σ.2.2.2.2.1])) := HO
  obtain ⟨⟨hBo, ho1, hIo⟩, ⟨hSI, hCI, hBB⟩, KD, KCs, KU, KN, KS, KI, KOu, KE⟩ := id WR
  have H : DnC g I h a st fo σ.1 := KD.1
  have dO := hO.1
  obtain ⟨A, Bf, pv, sv, KDA, hA, hB9, hV⟩ := id H
  obtain ⟨k1, k2, k3, k4, k5, k6, k7, k8⟩ := id KDA
  unfold opRestore
  obtain ⟨hS2, hoS⟩ := WR.ne2
  obtain ⟨e1, e2, e3, e4, e5, e6⟩ := id KU
  cases hS9 : σ.2.2.1 with
  | none =>
    rw [hS9] at KS
    obtain ⟨rfl, -⟩ := KS
    refine ev_aload_n dX1_restore_0 rfl ?_
    refine ev_aload_n dX1_restore_1 rfl ?_
    refine ev_getf dX1_restore_2 gf_X1_389_X1 HO rfl ?_
    refine ev_ifnullN (tgt := 12) dX1_restore_5 (by decide) ?_
    refine ev_iconstZ dX1_restore_12 ?_
    refine ev_bipushZ dX1_restore_13 rfl ?_
    refine ev_callV dX1_restore_15 cv_X1_125_X1 ce_X1_checkReason HO rfl rfl rfl (k_checkReasonF HO hBo (y := 6) (b := false) hG rfl) (by omega) (by omega) (by omega) (Nat.le_of_ble_eq_true rfl) (fun v h2 q => ?_) (fun E q h2 r9 => ?_)
    · obtain ⟨q9, e9, -⟩ := q; cases e9
    · obtain ⟨q9, e9, e8, e7⟩ := r9
      cases e9
      have W9 : WX g N B h2 o (wReason σ 6) := ⟨_, own, _, us, cl, ud, uv, uh, ib, iv, ic, os, ow, _, _, lev, cs, e8, WXr.self WR e7⟩
      exact evx_out rfl (XQ.no (by decide) rfl (W9.le (Nat.le_succ N)) (((Fr.refl (g := g) h []).more (S' := [o]) (fun x hx => by cases hx)).call e7 (fun x hx => Or.inl hx)) (fun x hx => by rw [List.mem_singleton.mp hx]; exact WR.nB))
  | some D =>
    rw [hS9] at KS
    obtain ⟨⟨qi, qa, qs, qf⟩, sl, cs2, rfl, rfl, KSD, hq4, KSC, hcN⟩ := KS
    obtain ⟨mc0, L, kL, hL0, hL1, hL2, d3⟩ := id KSC
    have hot : o ∉ sl :: L.map Prod.fst := fun e => by have := (hL0 o e).1; rw [ho1] at this; cases this
    have hLo := fun {h3 : HM} => cms_o (h3 := h3) hL1 hL2
    have hr9 : ∀ e : Nat, e < 8 → inR (D.2.1 e) := fun e he => by have := st_lt (hO.2.2 D hS9) he; omega
    obtain ⟨fss, hcs⟩ := KSD.1.cls
    have hSS : ∀ x ∈ [ud, uv, o], (own x = 1 ∨ own x = 2 ∨ own x = 3) ∧ I x = none := fun x q => by
      simp only [List.mem_cons, List.not_mem_nil, or_false] at q
      rcases q with rfl | rfl | rfl
      · exact ⟨Or.inr (Or.inr e2.1), e2.2.2.1⟩
      · exact ⟨Or.inr (Or.inr e2.2.1), e2.2.2.2⟩
      · exact ⟨Or.inl ho1, hIo⟩
    refine ev_aload_n dX1_restore_0 rfl ?_
    refine ev_aload_n dX1_restore_1 rfl ?_
    refine ev_getf dX1_restore_2 gf_X1_389_X1 HO rfl ?_
    refine ev_ifnull dX1_restore_5 ?_
    refine ev_iconstZ dX1_restore_8 ?_
    refine ev_goto (tgt := 13) dX1_restore_9 (by decide) ?_
    refine ev_bipushZ dX1_restore_13 rfl ?_
    refine ev_callVN dX1_restore_15 cv_X1_125_X1 ce_X1_checkReason HO rfl rfl rfl (k_checkReasonT (d := 0) HO hBo (y := 6) (b := true) rfl) (by omega) (Nat.le_of_ble_eq_true rfl) ?_
    refine ev_aload_n dX1_restore_18 rfl ?_
    refine ev_aload_n dX1_restore_19 rfl ?_
    refine ev_getf dX1_restore_20 gf_X1_389_X1 HO rfl ?_
    refine ev_callVR dX1_restore_23 cv_X1_79_X2 ce_X2_copy hcs rfl rfl rfl (k_copyX2 KSD.1 hG) (by omega) (by omega) (by omega) (Nat.le_of_ble_eq_true rfl) (fun v1 h1 P1 => ?_)
    obtain ⟨q, st2, fo2, rfl, KD, F1, hqB, hz⟩ := P1
    have HO1 := F1.keep HO (fun q => by cases q)
    have F1b : Fr g h h1 [ud, uv, o] := F1.more (fun x hx => by cases hx)
    refine ev_putC [.ref q, .ref cl, .ref ud, .ref qa, .ref sl, .ref ib, .ref os, lev, vz σ.2.2.2.2.2.1, vz σ.2.2.2.2.1] dX1_restore_26 gf_X1_37_X1 HO1 hBo (Or.inl rfl) rfl rfl (Nat.le_of_ble_eq_true rfl) rfl (fun hp_2 HO1_3 f4 => ?_)
    have F5 := (F1b).write (Or.inl ⟨_, HO1_3⟩) f4 hBo (by simp)
    have HO2 := HO1_3
    have Fo2 := (Fr.refl (g := g) h1 [o]).write (Or.inl ⟨_, HO2⟩) f4 hBo (by simp)
    have hoq : ∀ x ∈ dnS q st2 fo2, x ≠ o := fun x hx e => by have := hz x hx; rw [e, HO] at this; cases this
    have KD2 := KD.fr Fo2 (fun x hx e => hoq x e (List.mem_singleton.mp hx))
    have Fh2 := (F1.more (S' := [o]) (fun x hx => by cases hx)).call Fo2 (fun x hx => Or.inl hx)
    have kL2 := kL.fr Fh2 (fun x hx => by rw [List.mem_singleton.mp hx]; exact ⟨fun e => hot (by rw [e]; exact List.mem_cons_self), fun e => hot (List.mem_cons_of_mem _ e)⟩)
    have hI2 := hSI.fr Fh2 (fun x hx => Or.inl (by rw [List.mem_singleton.mp hx]; exact hIo))
    refine ev_aload_n dX1_restore_29 rfl ?_
    refine ev_newC (c' := 1090) (k' := 4900) [vz 0, vz 0, .null, .null] dX1_restore_30 cf_J3 q229 q230 q123 rfl (by omega) (by omega) (fun q6 hp_7 e8 B9 Hq6_10 f11 => ?_)
    have HO1_12 := (f11 _ (ne_no HO1_3 e8)).trans HO1_3
    have z13 := (F5).fresh e8
    have F14 := (F5).alloc (Or.inl ⟨_, Hq6_10⟩) f11 e8
    refine ev_dup dX1_restore_33 rfl ?_
    refine ev_aload_n dX1_restore_34 rfl ?_
    refine ev_getf dX1_restore_35 gf_X1_395_X1 HO1_12 rfl ?_
    have Fn : Fr g hp_2 hp_7 [] := (Fr.refl (g := g) hp_2 []).alloc (Or.inl ⟨_, Hq6_10⟩) f11 e8
    have kL3 := kL2.fr Fn (fun x hx => by cases hx)
    have hI3 := hI2.fr0 Fn
    have ha2 : hp_2 q6 = none := e8
    have KD3 := KD2.fr Fn (fun x hx => by cases hx)
    refine ev_callVR dX1_restore_38 ci_X1_392 ce_J3_init_2 Hq6_10 rfl rfl rfl (ll_copy hG Hq6_10 B9 kL3 (fun e => kL2.nz List.mem_cons_self (by rw [← e]; exact ha2)) (by omega) (hLo hI3) (fun e => kL2.nz (List.mem_cons_of_mem _ e) ha2)) (by omega) (by omega) (by omega) (Nat.le_of_ble_eq_true rfl) (fun v15 h2 P15 => ?_)
    obtain ⟨rfl, m9, L9, hm9, hfr9, him9, hLL, F2⟩ := P15
    have F2b := (F14).call F2 (fun x hx => Or.inr (Or.inl (by rw [List.mem_singleton.mp hx]; exact z13)))
    have hoa : o ≠ q6 := fun e => by rw [← e, HO] at z13; cases z13
    have HO3 := F2.keep HO1_12 (fun e => hoa (List.mem_singleton.mp e))
    have hqa : q6 ∉ dnS q st2 fo2 := fun e => KD2.nz e ha2
    have hf9 : ∀ x ∈ L9.map Prod.fst, h x = none := fun x hx => (F14).fresh (hfr9 x hx)
    have hq9 : ∀ x ∈ L9.map Prod.fst, x ∉ dnS q st2 fo2 := fun x hx e => KD3.nz e (hfr9 x hx)
    have KD4 := KD3.fr F2 (fun x hx e => hqa (by rw [← List.mem_singleton.mp hx]; exact e))
    refine ev_putC [.ref q, .ref q6, .ref ud, .ref qa, .ref sl, .ref ib, .ref os, lev, vz σ.2.2.2.2.2.1, vz σ.2.2.2.2.1] dX1_restore_41 gf_X1_44_X1 HO3 hBo (Or.inl rfl) rfl rfl (Nat.le_of_ble_eq_true rfl) rfl (fun hp_16 HO3_17 f18 => ?_)
    have F19 := (F2b).write (Or.inl ⟨_, HO3_17⟩) f18 hBo (by simp)
    have HO4 := HO3_17
    have Fo4 := (Fr.refl (g := g) h2 [o]).write (Or.inl ⟨_, HO4⟩) f18 hBo (by simp)
    have ho9 : o ∉ L9.map Prod.fst := fun e => by have := hf9 o e; rw [HO] at this; cases this
    have hLL4 := hLL.fr Fo4 (fun x hx => by rw [List.mem_singleton.mp hx]; exact ⟨hoa, ho9⟩)
    have KD5 := KD4.fr Fo4 (fun x hx e => hoq x e (List.mem_singleton.mp hx))
    have hz2 : ∀ x ∈ q6 :: L9.map Prod.fst, h x = none := fun x hx => by
      rcases List.mem_cons.mp hx with e | e
      · rw [e]; exact z13
      · exact hf9 x e
    have hn2 : ∀ x ∈ q6 :: L9.map Prod.fst, x ∉ dnS q st2 fo2 := fun x hx => by
      rcases List.mem_cons.mp hx with e | e
      · rw [e]; exact hqa
      · exact hq9 x e
    have Fq : Fr g h _ [o] := ((Fh2.call Fn nil_in).call F2 (fun x hx => Or.inr (Or.inl (by rw [List.mem_singleton.mp hx]; exact z13)))).call Fo4 (fun x hx => Or.inl hx)
    have hA4 := e1.fr Fq (fun e => hoS (by rw [← List.mem_singleton.mp e]; simp)) (fun e => hoS (by rw [← List.mem_singleton.mp e]; simp))
    refine ev_aload_n dX1_restore_44 rfl ?_
    refine ev_getf dX1_restore_45 gf_X1_51_X1 HO3_17 rfl ?_
    refine ev_callVR dX1_restore_48 cv_X1_139_J4 ce_J4_clear hA4.1 rfl rfl rfl (ad_clear hA4) (by omega) (by omega) (by omega) (Nat.le_of_ble_eq_true rfl) (fun v20 h5 P20 => ?_)
    obtain ⟨rfl, hA5, F5⟩ := P20
    have F5b := (F19).call F5 (fun x hx => Or.inl (by simp only [List.mem_cons, List.not_mem_nil, or_false] at hx; rcases hx with rfl | rfl <;> simp))
    have HO5 := F5.keep HO4 hoS
    have KD6 := KD5.fr F5 (fun x hx e => (hS2 x hx).2.2 (hz x e))
    have hLL5 := hLL4.fr F5 (fun x hx => ⟨fun e => by have := hz2 x (by rw [e]; exact List.mem_cons_self); exact (hS2 x hx).2.2 this, fun e => (hS2 x hx).2.2 (hf9 x e)⟩)
    obtain ⟨fsd, hcd⟩ := KD6.cls
    refine ev_aload_n dX1_restore_51 rfl ?_
    refine ev_getf dX1_restore_52 gf_X1_37_X1 HO5 rfl ?_
    refine ev_callVE dX1_restore_55 cv_X1_398_X2 ce_X2_participants hcd rfl rfl rfl (k_partsX2 (d := 0) KD6 hr9) (by omega) (Nat.le_of_ble_eq_true rfl) ?_
    refine ev_ireturn dX1_restore_58 rfl ?_
    have WR2 := WXr.reset WR (by rw [HO]; exact fun q => by cases q) F5b hSS (ow2_K hz hz2) (ow2_D (own := own) (R := frL ((pid, a, st, fo) :: us)) (R2 := 2) KD6 hz hSI) (by show 10 ≤ frL _; unfold frL; omega) (CsW.copy hL1 hL2 d3 hm9 hLL5 (ow2_L hz2 hn2 hSI)) hcN hA5
    exact XQ.ok ⟨I, _, _, [], _, ud, uv, _, ib, iv, ic, os, ow, _, _, lev, cs2, HO5, WR2.le (Nat.le_succ N)⟩ F5b (fun x hx e => by have := (hBB x e).1; rcases (hSS x hx).1 with w | w | w <;> omega)
end Y5S

/-! THE COMPONENT: the class, undo, stage (printed by gen) -/
section Y4S
variable {g : GB} {M : MI} {d c k : Nat} {h : HM}
section
variable {N : Nat} {B : Nat → Prop} {I J h h' : HM} {own : Nat → Nat} {o : Nat} {p : Dp} {us : List Dp} {cl ud uv uh ib iv ic os ow : Nat} {sdv scv lev : Value} {cs : List Cm} {σ : Sp}
theorem rpl_dim (c : Nat × Nat) : ∀ cs : List Cm, (rpl c cs).1 = c := by
  intro cs
  have key : ∀ (cs : List Cm) (D : Dn), (cs.foldl (fun D C => cmD C D) D).1 = D.1 := by
    intro cs
    induction cs with
    | nil => intro D; rfl
    | cons C cs ih => intro D; show (cs.foldl _ (cmD C D)).1 = _; rw [ih, cmD_dim]
  exact key cs _
/-- the last command goes -/
theorem WXr.pop {x0 : MO} (HO : h o = some x0) (K : WXr g N B I h own o p us cl ud uv uh ib iv ic os ow sdv scv lev cs σ) {us' : List Dp} {ul : Dp} (hu : us = us' ++ [ul]) {D : Dn} {Ds' : List Dn} (hD : σ.2.1 = Ds' ++ [D]) {mc mc0 : Int} {L t : List (Nat × Nat)} {q9 : Nat × Nat} {h5 : HM} {S : List Nat} (kL : LLh g h cl mc0 L) (hL0 : ∀ x ∈ cl :: L.map Prod.fst, own x = 2 ∧ I x = none) (hL1 : L.length = cs.length) (hL2 : ∀ (i q x : Nat) (C : Cm), L[i]? = some (q, x) → cs[i]? = some C → CmC g I x C ∧ cmOk C) (hLe : L = t ++ [q9]) (F : Fr g h h5 S) (hS : ∀ x ∈ S, (own x = 1 ∨ own x = 2 ∨ own x = 3) ∧ I x = none) (hA : ADh g h5 ud uv uh (us'.map (fun q => q.2.1))) (hLL : LLh g h5 cl mc t) : WXr g N B I h5 own o ul us' cl ud uv uh ib iv ic os ow sdv scv lev cs.dropLast (D, Ds', σ.2.2) := by
  obtain ⟨a, ⟨b1, b2, b3⟩, c, ⟨d1, d2⟩, ⟨e1, e2, e3, e4, e5, e6⟩, ⟨n1, n2⟩, s, i, u, r⟩ := K
  have G : Gw I h I h5 := (Gw.refl b1).fr F (fun x hx => Or.inl (hS x hx).2)
  have key : ∀ m : Nat, 4 ≤ m → ∀ x ∈ S, own x ≠ m := fun m hm x hx q => by rcases (hS x hx).1 with w | w | w <;> omega
  have hul : us.length = us'.length + 1 := by rw [hu, List.length_append]; rfl
  have hdl : cs.dropLast.length = cs.length - 1 := List.length_dropLast
  have hDl : σ.2.1.length = Ds'.length + 1 := by rw [hD, List.length_append]; rfl
  have hlast := e6 us'.length ul D (by rw [hu, List.getElem?_append_right (Nat.le_refl _), Nat.sub_self]; rfl) (by rw [hD, List.getElem?_append_right (by omega), show us'.length - Ds'.length = 0 by omega]; rfl)
  have hDd : D.1 = σ.1.1 := by rw [← hlast.2]; exact rpl_dim _ _
  refine ⟨a, ⟨G.2.1, b2, fun x hx => ⟨(b3 x hx).1, F.1 x (b3 x hx).2.1, (b3 x hx).2.2⟩⟩, hlast.1.mv G F (key _ (by have := n2 ul (by rw [hu]; simp); omega)) ownK.refl, ⟨⟨mc, t, hLL, ?_, ?_, ?_, ?_⟩, by omega⟩, ⟨hA, e2, by show us'.length = Ds'.length; omega, by omega, by omega, ?_⟩, ⟨?_, ?_⟩, s.mv G F (fun x hx => ⟨key 4 (by decide) x hx, key 5 (by decide) x hx⟩) ownK.refl, i.mv G F (key 6 (by decide)) ownK.refl, u.mv G F (fun x hx => (hS x hx).2), r⟩
  · intro x hx
    refine hL0 x ?_
    rw [hLe, List.map_append]
    rcases List.mem_cons.mp hx with e | e
    · rw [e]; exact List.mem_cons_self
    · exact List.mem_cons_of_mem _ (List.mem_append_left _ e)
  · rw [hdl, ← hL1, hLe, List.length_append]; rfl
  · intro j q x C g1 g2
    have hj := lt_of_getE g1
    refine hL2 j q x C (by rw [hLe, List.getElem?_append_left hj]; exact g1) ?_
    rw [List.getElem?_dropLast] at g2
    split at g2
    · exact g2
    · cases g2
  · show rpl D.1 cs.dropLast = D
    rw [hDd, List.dropLast_eq_take]
    have := hlast.2
    rwa [show cs.length - us.length + us'.length = cs.length - 1 by omega] at this
  · intro j q D9 g1 g2
    have hj := lt_of_getE g1
    have hj2 := lt_of_getE g2
    have h1 := e6 j q D9 (by rw [hu, List.getElem?_append_left hj]; exact g1) (by rw [hD, List.getElem?_append_left hj2]; exact g2)
    refine ⟨h1.1.mv G F (key _ (by have := n2 q (by rw [hu]; exact List.mem_cons_of_mem _ (List.mem_append_left _ (List.mem_of_getElem? g1))); omega)) ownK.refl, ?_⟩
    show rpl D.1 _ = D9
    rw [hDd, ← h1.2, List.dropLast_eq_take, List.take_take, List.length_take]
    congr 2
    omega
  · rw [hu, List.map_cons, List.map_append] at n1
    have h2 := (List.nodup_cons.mp n1).2
    have h3 : (us'.map (fun q => q.1) ++ [ul].map (fun q => q.1)).Perm ((ul :: us').map (fun q => q.1)) := List.perm_append_comm
    exact h3.nodup_iff.mp h2
  · intro q hq
    refine n2 q ?_
    rw [hu]
    rcases List.mem_cons.mp hq with e | e
    · rw [e]; simp
    · exact List.mem_cons_of_mem _ (List.mem_append_left _ e)
/-- another dance and other commands, none to be had again -/
theorem WXr.reset (K : WXr g N B I h own o p us cl ud uv uh ib iv ic os ow sdv scv lev cs σ) (HO : h o ≠ none) {S : List Nat} {own' : Nat → Nat} {h5 : HM} {p' : Dp} {D : Dn} {cl' uh' : Nat} {cs' : List Cm} (F : Fr g h h5 S) (hS : ∀ x ∈ S, (own x = 1 ∨ own x = 2 ∨ own x = 3) ∧ I x = none) (ho : ownK h own own') (KD : DnW g I h5 own' p' D) (hp' : 10 ≤ p'.1) (KC' : CsW g I h5 own' 2 cl' D cs') (hN' : cs'.length ≤ N) (hA : ADh g h5 ud uv uh' []) : WXr g N B I h5 own' o p' [] cl' ud uv uh' ib iv ic os ow sdv scv lev cs' (D, [], σ.2.2) := by
  obtain ⟨a, ⟨b1, b2, b3⟩, c, ⟨d1, d2⟩, ⟨e1, e2, e3, e4, e5, e6⟩, ⟨n1, n2⟩, s, i, u, r⟩ := K
  have G : Gw I h I h5 := (Gw.refl b1).fr F (fun x hx => Or.inl (hS x hx).2)
  have key : ∀ m : Nat, 4 ≤ m → ∀ x ∈ S, own x ≠ m := fun m hm x hx q => by rcases (hS x hx).1 with w | w | w <;> omega
  exact ⟨⟨a.1, (ho o HO).trans a.2.1, a.2.2⟩, ⟨G.2.1, b2, fun x hx => ⟨(ho x (b3 x hx).2.1).trans (b3 x hx).1, F.1 x (b3 x hx).2.1, (b3 x hx).2.2⟩⟩, KD, ⟨KC', hN'⟩, ⟨hA, ⟨(ho _ e1.nz.1).trans e2.1, (ho _ e1.nz.2).trans e2.2.1, e2.2.2.1, e2.2.2.2⟩, rfl, Nat.zero_le _, Nat.zero_le _, fun j q D9 g1 g2 => by simp at g1⟩, ⟨by simp, fun q hq => by rw [List.mem_singleton.mp hq]; exact hp'⟩, s.mv G F (fun x hx => ⟨key 4 (by decide) x hx, key 5 (by decide) x hx⟩) ho, i.mv G F (key 6 (by decide)) ho, u.mv G F (fun x hx => (hS x hx).2), r⟩
theorem DnW.fresh {h5 : HM} {R q st fo : Nat} {D : Dn} (KD : DnC g I h5 q st fo D) (hz : ∀ x ∈ dnS q st fo, h x = none) (hI : Sub I h) : DnW g I h5 (fun x => if x ∈ dnS q st fo then R else own x) (R, q, st, fo) D := ⟨KD, fun x hx => ⟨if_pos hx, by
  cases e : I x with
  | none => rfl
  | some y => have := hI _ _ e; rw [hz x hx] at this; cases this⟩⟩
theorem ownK.fresh {R q st fo : Nat} (hz : ∀ x ∈ dnS q st fo, h x = none) : ownK h own (fun x => if x ∈ dnS q st fo then R else own x) := fun x hx => if_neg (fun e => hx (hz x e))
theorem dnS_none {q st fo : Nat} (h1 : h q = none) (h2 : h st = none) (h3 : ∀ j : Nat, j ≤ 4 → h (fo + j) = none) : ∀ x ∈ dnS q st fo, h x = none := fun x hx => by
  rcases dnS_mem hx with e | e | ⟨j, hj, e⟩
  · rw [e]; exact h1
  · rw [e]; exact h2
  · rw [e]; exact h3 j hj
end
variable {N : Nat} {B : Nat → Prop} {o : Nat} {σ : Sp}
set_option maxRecDepth 100000 in
set_option maxHeartbeats 4000000 in
theorem kx_undo (hG : GKx g) (K0 : KC g h) (W : WX g N B h o σ) (hO : spOk σ)  (hd : 20 ≤ d) (hc : 5 ≤ c) (hk : 50 ≤ k) : Kc g mX1_undo d c k [.ref o] h (XQ g (N + 1) B h o (fun m : Int => "java/lang/IllegalStateException") (opUndo σ)) := by
  refine Kc.of (ls := [some (.ref o), none]) (by decide +kernel) (Nat.le_of_ble_eq_true rfl) rfl ?_
  obtain ⟨I, own, ⟨pid, a, st, fo⟩, us, cl, ud, uv, uh, ib, iv, ic, os, ow, sdv, scv, lev, cs, HO, WR⟩ := id W
  have HO : h o = some (.inr (0, [.ref a, .ref cl, .ref ud, sdv, scv, .ref ib, .ref os, lev, vz σ.2.2.2.2.2.1, vz σ.2.2.2.2.1])) := HO
  obtain ⟨⟨hBo, ho1, hIo⟩, ⟨hSI, hCI, hBB⟩, KD, KCs, KU, KN, KS, KI, KOu, KE⟩ := id WR
  have H : DnC g I h a st fo σ.1 := KD.1
  have dO := hO.1
  obtain ⟨A, Bf, pv, sv, KDA, hA, hB9, hV⟩ := id H
  obtain ⟨k1, k2, k3, k4, k5, k6, k7, k8⟩ := id KDA
  obtain ⟨⟨mc0, L, kL, hL0, hL1, hL2, d3⟩, hcN⟩ := id KCs
  obtain ⟨hS2, hoS⟩ := WR.ne2
  obtain ⟨e1, e2, e3, e4, e5, e6⟩ := id KU
  have hp10 := KN.2 _ List.mem_cons_self
  unfold opUndo
  by_cases hz : us.length = 0
  · have hD0 : σ.2.1 = [] := List.length_eq_zero_iff.mp (by rw [← e3]; exact hz)
    rw [hD0]
    refine ev_aload_n dX1_undo_0 rfl ?_
    refine ev_aload_n dX1_undo_1 rfl ?_
    refine ev_getf dX1_undo_2 gf_X1_51_X1 HO rfl ?_
    refine ev_callVE dX1_undo_5 cv_X1_376_J4 ce_J4_isEmpty e1.1 rfl rfl rfl (ad_isEmpty e1) (by omega) (Nat.le_of_ble_eq_true rfl) ?_
    refine ev_if_neZ (tgt := 15) dX1_undo_8 (by decide) (by split <;> omega) (fun c8 => ?_) (fun c8 => by rw [List.length_map, if_pos hz] at c8; omega)
    refine ev_iconstZ dX1_undo_15 ?_
    refine ev_bipushZ dX1_undo_16 rfl ?_
    refine ev_callV dX1_undo_18 cv_X1_125_X1 ce_X1_checkReason HO rfl rfl rfl (k_checkReasonF HO hBo (y := 6) (b := false) hG rfl) (by omega) (by omega) (by omega) (Nat.le_of_ble_eq_true rfl) (fun v h2 q => ?_) (fun E q h2 r9 => ?_)
    · obtain ⟨q9, e9, -⟩ := q; cases e9
    · obtain ⟨q9, e9, e8, e7⟩ := r9
      cases e9
      have W9 : WX g N B h2 o (wReason σ 6) := ⟨_, own, _, us, cl, ud, uv, uh, ib, iv, ic, os, ow, sdv, scv, lev, cs, e8, WXr.self WR e7⟩
      exact evx_out rfl (XQ.no (by decide) rfl (W9.le (Nat.le_succ N)) (((Fr.refl (g := g) h []).more (S' := [o]) (fun x hx => by cases hx)).call e7 (fun x hx => Or.inl hx)) (fun x hx => by rw [List.mem_singleton.mp hx]; exact WR.nB))
  · obtain ⟨us', ul, rfl⟩ : ∃ us' ul, us = us' ++ [ul] := by
      rcases List.eq_nil_or_concat us with e | ⟨t, x, e⟩
      · exact absurd (by rw [e]; rfl) hz
      · exact ⟨t, x, by rw [e]; simp⟩
    obtain ⟨Ds', D, hD⟩ : ∃ Ds' D, σ.2.1 = Ds' ++ [D] := by
      rcases List.eq_nil_or_concat σ.2.1 with e | ⟨t, x, e⟩
      · rw [e] at e3; simp at e3
      · exact ⟨t, x, by rw [e]; simp⟩
    have hul : us'.length = Ds'.length := by rw [hD] at e3; simpa using e3
    rw [List.length_append, List.length_singleton] at e4
    obtain ⟨t, q9, hLe⟩ : ∃ t q9, L = t ++ [q9] := by
      rcases List.eq_nil_or_concat L with e | ⟨t, x, e⟩
      · rw [e] at hL1; simp at hL1; omega
      · exact ⟨t, x, by rw [e]; simp⟩
    have hSS : ∀ x ∈ [ud, uv, o] ++ (cl :: L.map Prod.fst), (own x = 1 ∨ own x = 2 ∨ own x = 3) ∧ I x = none := fun x hx => by
      rcases List.mem_append.mp hx with q | q
      · simp only [List.mem_cons, List.not_mem_nil, or_false] at q
        rcases q with rfl | rfl | rfl
        · exact ⟨Or.inr (Or.inr e2.1), e2.2.2.1⟩
        · exact ⟨Or.inr (Or.inr e2.2.1), e2.2.2.2⟩
        · exact ⟨Or.inl ho1, hIo⟩
      · exact ⟨Or.inr (Or.inl (hL0 x q).1), (hL0 x q).2⟩
    have hlast := e6 us'.length ul D (by rw [List.getElem?_append_right (Nat.le_refl _), Nat.sub_self]; rfl) (by rw [hD, List.getElem?_append_right (by omega), show us'.length - Ds'.length = 0 by omega]; rfl)
    obtain ⟨fsu, hcu⟩ := hlast.1.1.cls
    have hul10 := KN.2 ul (by simp)
    have eB : ADh g h ud uv uh (us'.map (fun q => q.2.1) ++ [ul.2.1]) := by rw [List.map_append] at e1; exact e1
    have hot : o ∉ cl :: L.map Prod.fst := fun e => by have := (hL0 o e).1; rw [ho1] at this; cases this
    obtain ⟨p9, x9⟩ := q9
    obtain ⟨C9, hC9⟩ : ∃ C, cs[t.length]? = some C := ⟨_, List.getElem?_eq_getElem (by rw [← hL1, hLe, List.length_append]; simp)⟩
    have hcm9 := (hL2 t.length p9 x9 C9 (by rw [hLe, List.getElem?_append_right (Nat.le_refl _), Nat.sub_self]; rfl) hC9).1
    obtain ⟨fsc, hcc⟩ := hcm9.cls
    rw [hD, List.getLast?_concat, List.dropLast_concat]
    refine ev_aload_n dX1_undo_0 rfl ?_
    refine ev_aload_n dX1_undo_1 rfl ?_
    refine ev_getf dX1_undo_2 gf_X1_51_X1 HO rfl ?_
    refine ev_callVE dX1_undo_5 cv_X1_376_J4 ce_J4_isEmpty e1.1 rfl rfl rfl (ad_isEmpty e1) (by omega) (Nat.le_of_ble_eq_true rfl) ?_
    refine ev_if_neZ (tgt := 15) dX1_undo_8 (by decide) (by split <;> omega) (fun c8 => by rw [List.map_append, List.length_append] at c8; simp at c8) (fun c8 => ?_)
    refine ev_iconstZ dX1_undo_11 ?_
    refine ev_goto (tgt := 16) dX1_undo_12 (by decide) ?_
    refine ev_bipushZ dX1_undo_16 rfl ?_
    refine ev_callVN dX1_undo_18 cv_X1_125_X1 ce_X1_checkReason HO rfl rfl rfl (k_checkReasonT (d := 0) HO hBo (y := 6) (b := true) rfl) (by omega) (Nat.le_of_ble_eq_true rfl) ?_
    refine ev_aload_n dX1_undo_21 rfl ?_
    refine ev_aload_n dX1_undo_22 rfl ?_
    refine ev_getf dX1_undo_23 gf_X1_51_X1 HO rfl ?_
    refine ev_callVR dX1_undo_26 cv_X1_377_J4 ce_J4_removeLast eB.1 rfl rfl rfl (ad_removeLast eB) (by omega) (by omega) (by omega) (Nat.le_of_ble_eq_true rfl) (fun v1 h2 P1 => ?_)
    obtain ⟨rfl, hA, F2⟩ := P1
    have hcu2 := F2.keep hcu (fun e => by have h1 := (hS2 _ e).1; have h2 := (hlast.1.2 ul.2.1 (by simp [dnS])).1; omega)
    have HO2 := F2.keep HO hoS
    have F2b : Fr g h h2 ([ud, uv, o] ++ (cl :: L.map Prod.fst)) := F2.more (fun x hx => Or.inl (by simp only [List.mem_cons, List.not_mem_nil, or_false] at hx; rcases hx with rfl | rfl <;> simp))
    refine ev_castY dX1_undo_29 q185 hcu2 rfl (Or.inl rfl) ?_
    refine ev_putC [.ref ul.2.1, .ref cl, .ref ud, sdv, scv, .ref ib, .ref os, lev, vz σ.2.2.2.2.2.1, vz σ.2.2.2.2.1] dX1_undo_32 gf_X1_37_X1 HO2 hBo (Or.inl rfl) rfl rfl (Nat.le_of_ble_eq_true rfl) rfl (fun hp_2 HO2_3 f4 => ?_)
    have hcu2_5 := (f4 _ (ne_of hcu2 HO2 (by simp))).trans hcu2
    have F6 := (F2b).write (Or.inl ⟨_, HO2_3⟩) f4 hBo (by simp)
    have HO3 := HO2_3
    have Fo3 := (Fr.refl (g := g) h2 [o]).write (Or.inl ⟨_, HO3⟩) f4 hBo (by simp)
    have hA3 := hA.fr Fo3 (fun e => hoS (by rw [← List.mem_singleton.mp e]; simp)) (fun e => hoS (by rw [← List.mem_singleton.mp e]; simp))
    have kL3 : LLh g hp_2 cl mc0 (t ++ [(p9, x9)]) := by rw [← hLe]; exact (kL.fr F2 (fun x hx => ⟨fun e => by have := (hL0 cl List.mem_cons_self).1; rw [← e, (hS2 x hx).1] at this; omega, fun e => by have := (hL0 x (List.mem_cons_of_mem _ e)).1; rw [(hS2 x hx).1] at this; omega⟩)).fr Fo3 (fun x hx => by rw [List.mem_singleton.mp hx]; exact ⟨fun e => hot (by rw [e]; exact List.mem_cons_self), fun e => hot (List.mem_cons_of_mem _ e)⟩)
    refine ev_aload_n dX1_undo_35 rfl ?_
    refine ev_getf dX1_undo_36 gf_X1_44_X1 HO2_3 rfl ?_
    refine ev_callVR dX1_undo_39 cv_X1_380_J3 ce_J3_removeLast kL3.1 rfl rfl rfl (ll_removeLast kL3) (by omega) (by omega) (by omega) (Nat.le_of_ble_eq_true rfl) (fun v7 h4 P7 => ?_)
    obtain ⟨rfl, hLL, F4⟩ := P7
    rw [← hLe] at F4
    have F4b := F6.call F4 (fun x hx => Or.inl (List.mem_append_right _ hx))
    have HO4 := F4.keep HO3 hot
    have hI4 : Sub I h4 := hSI.fr F4b (fun x hx => Or.inl (hSS x hx).2)
    have hcc4 := hI4 _ _ hcc
    have hA4 := (hA3).fr F4 (fun e => by have := (hL0 ud e).1; rw [e2.1] at this; cases this) (fun e => by have := (hL0 uv e).1; rw [e2.2.1] at this; cases this)
    refine ev_castY dX1_undo_42 q1088 hcc4 rfl (Or.inl rfl) ?_
    refine ev_astore_n dX1_undo_45 (by decide) rfl ?_
    dsimp only [List.set]
    refine ev_aload_n dX1_undo_46 rfl ?_
    refine ev_getf dX1_undo_47 gf_X1_51_X1 HO4 rfl ?_
    refine ev_callVE dX1_undo_50 cv_X1_71_J4 ce_J4_size hA4.1 rfl rfl rfl (ad_size hA4) (by omega) (Nat.le_of_ble_eq_true rfl) ?_
    refine ev_ireturn dX1_undo_53 rfl ?_
    have WR2 := WXr.pop HO WR rfl hD kL hL0 hL1 hL2 hLe F4b hSS hA4 hLL
    rw [show ((Ds' ++ [D]).length : Int) - 1 = (((us'.map (fun q => q.2.1)).length : Nat) : Int) by rw [List.length_append, List.length_singleton, List.length_map]; omega]
    exact XQ.ok ⟨I, own, ul, us', cl, ud, uv, uh, ib, iv, ic, os, ow, sdv, scv, lev, cs.dropLast, HO4, WR2.le (Nat.le_succ N)⟩ F4b (fun x hx e => by have := (hBB x e).1; rcases (hSS x hx).1 with w | w | w <;> omega)
set_option maxRecDepth 100000 in
set_option maxHeartbeats 4000000 in
theorem kx_stage (hG : GKx g) (K0 : KC g h) (W : WX g N B h o σ) (hO : spOk σ) {x y : Int} (hr1 : inR x) (hr2 : inR y) (hd : 20 ≤ d) (hc : 10 ≤ c) (hk : 70 ≤ k) : Kc g mX1_stage d c k [.ref o, vz x, vz y] h (XQ g N B h o (fun m : Int => "java/lang/IllegalArgumentException") (opStage σ x y)) := by
  refine Kc.of (ls := [some (.ref o), some (vz x), some (vz y)]) (by decide +kernel) (Nat.le_of_ble_eq_true rfl) rfl ?_
  obtain ⟨I, own, ⟨pid, a, st, fo⟩, us, cl, ud, uv, uh, ib, iv, ic, os, ow, sdv, scv, lev, cs, HO, WR⟩ := id W
  have HO : h o = some (.inr (0, [.ref a, .ref cl, .ref ud, sdv, scv, .ref ib, .ref os, lev, vz σ.2.2.2.2.2.1, vz σ.2.2.2.2.1])) := HO
  obtain ⟨⟨hBo, ho1, hIo⟩, ⟨hSI, hCI, hBB⟩, KD, KCs, KU, KN, KS, KI, KOu, KE⟩ := id WR
  have H : DnC g I h a st fo σ.1 := KD.1
  have dO := hO.1
  obtain ⟨A, Bf, pv, sv, KDA, hA, hB9, hV⟩ := id H
  obtain ⟨k1, k2, k3, k4, k5, k6, k7, k8⟩ := id KDA
  obtain ⟨⟨mc0, L, kL, hL0, hL1, hL2, d3⟩, hcN⟩ := id KCs
  obtain ⟨hS2, hoS⟩ := WR.ne2
  obtain ⟨e1, e2, e3, e4, e5, e6⟩ := id KU
  have hp10 := KN.2 _ List.mem_cons_self
  unfold opStage
  by_cases c9 : 2 ≤ x ∧ x ≤ 9
  · by_cases c8 : 2 ≤ y ∧ y ≤ 9
    · rw [if_pos ⟨c9, c8⟩]
      obtain ⟨x9, rfl⟩ := toB x (by omega)
      obtain ⟨y9, rfl⟩ := toB y (by omega)
      have hSS : ∀ x ∈ [ud, uv, o] ++ (cl :: L.map Prod.fst), (own x = 1 ∨ own x = 2 ∨ own x = 3) ∧ I x = none := fun x hx => by
        rcases List.mem_append.mp hx with q | q
        · simp only [List.mem_cons, List.not_mem_nil, or_false] at q
          rcases q with rfl | rfl | rfl
          · exact ⟨Or.inr (Or.inr e2.1), e2.2.2.1⟩
          · exact ⟨Or.inr (Or.inr e2.2.1), e2.2.2.2⟩
          · exact ⟨Or.inl ho1, hIo⟩
        · exact ⟨Or.inr (Or.inl (hL0 x q).1), (hL0 x q).2⟩
      have hot : o ∉ cl :: L.map Prod.fst := fun e => by have := (hL0 o e).1; rw [ho1] at this; cases this
      refine ev_iload_n dX1_stage_0 rfl ?_
      refine ev_i2l dX1_stage_1 ?_
      refine ev_ldc2 (v := 2) dX1_stage_2 q1407 ?_
      refine ev_ldc2 (v := 9) dX1_stage_5 q1408 ?_
      refine ev_callSE dX1_stage_8 cs_X1_108 ce_X1_inRange rfl rfl (k_inRange (d := 0) (a := ((x9 : Nat) : Int)) (lo := 2) (hi := 9) (by omega)) (by omega) (Nat.le_of_ble_eq_true rfl) ?_
      refine ev_if_eqB (tgt := 32) dX1_stage_11 (by decide) (fun c11 => by rw [decide_eq_true c9] at c11; cases c11) (fun c11 => ?_)
      refine ev_iload_n dX1_stage_14 rfl ?_
      refine ev_i2l dX1_stage_15 ?_
      refine ev_ldc2 (v := 2) dX1_stage_16 q1407 ?_
      refine ev_ldc2 (v := 9) dX1_stage_19 q1408 ?_
      refine ev_callSE dX1_stage_22 cs_X1_108 ce_X1_inRange rfl rfl (k_inRange (d := 0) (a := ((y9 : Nat) : Int)) (lo := 2) (hi := 9) (by omega)) (by omega) (Nat.le_of_ble_eq_true rfl) ?_
      refine ev_if_eqB (tgt := 32) dX1_stage_25 (by decide) (fun c25 => by rw [decide_eq_true c8] at c25; cases c25) (fun c25 => ?_)
      refine ev_iconstZ dX1_stage_28 ?_
      refine ev_goto (tgt := 33) dX1_stage_29 (by decide) ?_
      refine ev_callSN dX1_stage_33 cs_X1_133 ce_X1_checkArgument rfl rfl (k_checkArgumentT (d := 0) (b := true) rfl) (by omega) (Nat.le_of_ble_eq_true rfl) ?_
      refine ev_aload_n dX1_stage_36 rfl ?_
      refine ev_newC (c' := 8) (k' := 60) [vz 0, vz 0, .null, .null, .null, .null] dX1_stage_37 cf_X2 q185 q186 q119 rfl (by omega) (by omega) (fun q1 hp_2 e3 B4 Hq1_5 f6 => ?_)
      have F0h := (Fr.refl (g := g) h [o]).alloc (Or.inl ⟨_, Hq1_5⟩) f6 e3
      have HO_7 := (f6 _ (ne_no HO e3)).trans HO
      have z8 := ((Fr.refl (g := g) _ ([ud, uv, o] ++ (cl :: L.map Prod.fst)))).fresh e3
      have F9 := ((Fr.refl (g := g) _ ([ud, uv, o] ++ (cl :: L.map Prod.fst)))).alloc (Or.inl ⟨_, Hq1_5⟩) f6 e3
      refine ev_dup dX1_stage_40 rfl ?_
      refine ev_iload_n dX1_stage_41 rfl ?_
      refine ev_iload_n dX1_stage_42 rfl ?_
      refine ev_callVR dX1_stage_43 ci_X1_34 ce_X2_init Hq1_5 rfl rfl rfl (k_initX2 (co := x9) (ro := y9) hG Hq1_5 B4) (by omega) (by omega) (by omega) (Nat.le_of_ble_eq_true rfl) (fun v10 h2 P10 => ?_)
      obtain ⟨rfl, st2, fo2, KDa, F2, hst2, hfo2⟩ := P10
      have hz : ∀ x ∈ dnS q1 st2 fo2, h x = none := dnS_none z8 ((F9).fresh hst2) (fun j hj => (F9).fresh (hfo2 j hj))
      have KD := KDa I
      have F2b := (F9).call F2 (fun x hx => Or.inr (Or.inl (by rw [List.mem_singleton.mp hx]; exact z8)))
      have HO2 := F2.keep HO_7 (fun e => by rw [← List.mem_singleton.mp e, HO] at z8; cases z8)
      refine ev_putC [.ref q1, .ref cl, .ref ud, sdv, scv, .ref ib, .ref os, lev, vz σ.2.2.2.2.2.1, vz σ.2.2.2.2.1] dX1_stage_46 gf_X1_37_X1 HO2 hBo (Or.inl rfl) rfl rfl (Nat.le_of_ble_eq_true rfl) rfl (fun hp_11 HO2_12 f13 => ?_)
      have F14 := (F2b).write (Or.inl ⟨_, HO2_12⟩) f13 hBo (by simp)
      have HO3 := HO2_12
      have F3 : Fr g h hp_11 ([ud, uv, o] ++ (cl :: L.map Prod.fst)) := F14
      have Fo3 := (Fr.refl (g := g) h2 [o]).write (Or.inl ⟨_, HO3⟩) f13 hBo (by simp)
      have Fq3 : Fr g h hp_11 [o] := (((F0h).call F2 (fun x hx => Or.inr (Or.inl (by rw [List.mem_singleton.mp hx]; exact z8)))).call Fo3 (fun x hx => Or.inl hx))
      have KD3 := KD.fr Fo3 (fun x hx e => by rw [List.mem_singleton.mp hx] at e; have := hz o e; rw [HO] at this; cases this)
      have kL3 := kL.fr Fq3 (fun x hx => by rw [List.mem_singleton.mp hx]; exact ⟨fun e => hot (by rw [e]; exact List.mem_cons_self), fun e => hot (List.mem_cons_of_mem _ e)⟩)
      have hA3 := e1.fr Fq3 (fun e => hoS (by rw [← List.mem_singleton.mp e]; simp)) (fun e => hoS (by rw [← List.mem_singleton.mp e]; simp))
      refine ev_aload_n dX1_stage_49 rfl ?_
      refine ev_getf dX1_stage_50 gf_X1_44_X1 HO2_12 rfl ?_
      refine ev_callVR dX1_stage_53 cv_X1_136_J3 ce_J3_clear kL3.1 rfl rfl rfl (ll_clear kL3) (by omega) (by omega) (by omega) (Nat.le_of_ble_eq_true rfl) (fun v15 h4 P15 => ?_)
      obtain ⟨rfl, hLL, F4⟩ := P15
      have F4b := (F14).call F4 (fun x hx => Or.inl (List.mem_append_right _ hx))
      have HO4 := F4.keep HO3 hot
      have KD4 := KD3.fr F4 (fun x hx e => kL.nz hx (hz x e))
      have hA4 := hA3.fr F4 (fun e => by have := (hL0 ud e).1; rw [e2.1] at this; cases this) (fun e => by have := (hL0 uv e).1; rw [e2.2.1] at this; cases this)
      refine ev_aload_n dX1_stage_56 rfl ?_
      refine ev_getf dX1_stage_57 gf_X1_51_X1 HO4 rfl ?_
      refine ev_callVR dX1_stage_60 cv_X1_139_J4 ce_J4_clear hA4.1 rfl rfl rfl (ad_clear hA4) (by omega) (by omega) (by omega) (Nat.le_of_ble_eq_true rfl) (fun v16 h5 P16 => ?_)
      obtain ⟨rfl, hA5, F5⟩ := P16
      have F5b := (F4b).call F5 (fun x hx => Or.inl (List.mem_append_left _ (by simp only [List.mem_cons, List.not_mem_nil, or_false] at hx; rcases hx with rfl | rfl <;> simp)))
      have HO5 := F5.keep HO4 hoS
      have KD5 := KD4.fr F5 (fun x hx e => (hS2 x hx).2.2 (hz x e))
      have hLL5 := hLL.fr F5 (fun x hx => ⟨fun e => by have := (hL0 cl List.mem_cons_self).1; rw [← e, (hS2 x hx).1] at this; omega, fun e => by cases e⟩)
      obtain ⟨fsd, hcd⟩ := KD5.cls
      refine ev_aload_n dX1_stage_63 rfl ?_
      refine ev_getf dX1_stage_64 gf_X1_37_X1 HO5 rfl ?_
      refine ev_callVE dX1_stage_67 cv_X1_118_X2 ce_X2_places hcd rfl rfl rfl (k_placesX2 (d := 0) KD5) (by omega) (Nat.le_of_ble_eq_true rfl) ?_
      refine ev_ireturn dX1_stage_70 rfl ?_
      rw [Int.toNat_natCast, Int.toNat_natCast]
      have hcl2 : (fun x => if x ∈ dnS q1 st2 fo2 then frL ((pid, a, st, fo) :: us) else own x) cl = 2 := (ownK.fresh (own := own) hz cl (kL.nz List.mem_cons_self)).trans (hL0 cl List.mem_cons_self).1
      have KCn : CsW g I h5 (fun x => if x ∈ dnS q1 st2 fo2 then frL ((pid, a, st, fo) :: us) else own x) 2 cl (dn0 x9 y9) [] := by
        refine ⟨_, [], hLL5, fun x hx => ?_, rfl, fun i q x C g1 g2 => by simp at g1, rfl⟩
        rcases List.mem_cons.mp hx with e | e
        · rw [e]; exact ⟨hcl2, (hL0 cl List.mem_cons_self).2⟩
        · cases e
      have WR2 := WXr.reset WR (by rw [HO]; exact fun q => by cases q) F5b hSS (ownK.fresh hz) (DnW.fresh (R := frL ((pid, a, st, fo) :: us)) KD5 hz hSI) (by show 10 ≤ frL _; unfold frL; omega) KCn (Nat.zero_le _) hA5
      exact XQ.ok ⟨I, _, _, [], cl, ud, uv, _, ib, iv, ic, os, ow, sdv, scv, lev, [], HO5, WR2⟩ F5b (fun x hx e => by have := (hBB x e).1; rcases (hSS x hx).1 with w | w | w <;> omega)
    · rw [if_neg (fun q => c8 q.2)]
      refine ev_iload_n dX1_stage_0 rfl ?_
      refine ev_i2l dX1_stage_1 ?_
      refine ev_ldc2 (v := 2) dX1_stage_2 q1407 ?_
      refine ev_ldc2 (v := 9) dX1_stage_5 q1408 ?_
      refine ev_callSE dX1_stage_8 cs_X1_108 ce_X1_inRange rfl rfl (k_inRange (d := 0) (a := x) (lo := 2) (hi := 9) (by omega)) (by omega) (Nat.le_of_ble_eq_true rfl) ?_
      refine ev_if_eqB (tgt := 32) dX1_stage_11 (by decide) (fun c11 => by rw [decide_eq_true c9] at c11; cases c11) (fun c11 => ?_)
      refine ev_iload_n dX1_stage_14 rfl ?_
      refine ev_i2l dX1_stage_15 ?_
      refine ev_ldc2 (v := 2) dX1_stage_16 q1407 ?_
      refine ev_ldc2 (v := 9) dX1_stage_19 q1408 ?_
      refine ev_callSE dX1_stage_22 cs_X1_108 ce_X1_inRange rfl rfl (k_inRange (d := 0) (a := y) (lo := 2) (hi := 9) (by omega)) (by omega) (Nat.le_of_ble_eq_true rfl) ?_
      refine ev_if_eqB (tgt := 32) dX1_stage_25 (by decide) (fun c25 => ?_) (fun c25 => absurd (of_decide_eq_true c25) c8)
      refine ev_iconstZ dX1_stage_32 ?_
      refine ev_callS dX1_stage_33 cs_X1_133 ce_X1_checkArgument rfl rfl (k_checkArgumentF (b := false) hG rfl) (by omega) (by omega) (by omega) (Nat.le_of_ble_eq_true rfl) (fun v h2 q => ?_) (fun E q h2 r => ?_)
      · obtain ⟨q9, e9, -⟩ := q; cases e9
      · obtain ⟨q9, e9, rfl⟩ := r
        cases e9
        exact evx_out rfl (XQ.no (by decide) rfl W (Fr.refl _ []) nil_B)
  · rw [if_neg (fun q => c9 q.1)]
    refine ev_iload_n dX1_stage_0 rfl ?_
    refine ev_i2l dX1_stage_1 ?_
    refine ev_ldc2 (v := 2) dX1_stage_2 q1407 ?_
    refine ev_ldc2 (v := 9) dX1_stage_5 q1408 ?_
    refine ev_callSE dX1_stage_8 cs_X1_108 ce_X1_inRange rfl rfl (k_inRange (d := 0) (a := x) (lo := 2) (hi := 9) (by omega)) (by omega) (Nat.le_of_ble_eq_true rfl) ?_
    refine ev_if_eqB (tgt := 32) dX1_stage_11 (by decide) (fun c11 => ?_) (fun c11 => absurd (of_decide_eq_true c11) c9)
    refine ev_iconstZ dX1_stage_32 ?_
    refine ev_callS dX1_stage_33 cs_X1_133 ce_X1_checkArgument rfl rfl (k_checkArgumentF (b := false) hG rfl) (by omega) (by omega) (by omega) (Nat.le_of_ble_eq_true rfl) (fun v h2 q => ?_) (fun E q h2 r => ?_)
    · obtain ⟨q9, e9, -⟩ := q; cases e9
    · obtain ⟨q9, e9, rfl⟩ := r
      cases e9
      exact evx_out rfl (XQ.no (by decide) rfl W (Fr.refl _ []) nil_B)
end Y4S

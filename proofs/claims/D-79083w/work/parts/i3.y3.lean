/-! THE COMPONENT: the class, write, append (printed by gen) -/
section Y3S
variable {g : GB} {M : MI} {d c k : Nat} {h : HM}
section
variable {N : Nat} {B : Nat → Prop} {I J h h' : HM} {own : Nat → Nat} {o : Nat} {p : Dp} {us : List Dp} {cl ud uv uh ib iv ic os ow : Nat} {sdv scv lev : Value} {cs : List Cm} {σ : Sp}
/-- the object is written and I grows -/
theorem WXr.mvo (K : WXr g N B I h own o p us cl ud uv uh ib iv ic os ow sdv scv lev cs σ) (HO : h o ≠ none) (G : Gw I h J h') (F : Fr g h h' [o]) : WXr g N B J h' own o p us cl ud uv uh ib iv ic os ow sdv scv lev cs σ := by
  obtain ⟨a, ⟨b1, b2, b3⟩, c, ⟨d1, d2⟩, e, ⟨n1, n2⟩, s, i, u, r⟩ := K
  have key : ∀ m : Nat, m ≠ 1 → ∀ x ∈ [o], own x ≠ m := fun m hm x hx q => hm (by rw [List.mem_singleton.mp hx, a.2.1] at q; exact q.symm)
  exact ⟨⟨a.1, a.2.1, G.nn HO a.2.2⟩, ⟨G.2.1, G.cap b2, fun x hx => ⟨(b3 x hx).1, F.1 x (b3 x hx).2.1, G.nn (b3 x hx).2.1 (b3 x hx).2.2⟩⟩, c.mv G F (key _ (by have := n2 p List.mem_cons_self; omega)) ownK.refl, ⟨d1.mv G F (key 2 (by decide)) ownK.refl, d2⟩, e.mv G F (fun x hx => ⟨key 3 (by decide) x hx, fun q hq => key _ (by have := n2 q (List.mem_cons_of_mem _ hq); omega) x hx⟩) ownK.refl, ⟨n1, n2⟩, s.mv G F (fun x hx => ⟨key 4 (by decide) x hx, key 5 (by decide) x hx⟩) ownK.refl, i.mv G F (key 6 (by decide)) ownK.refl, u.mv G F (fun x hx => by rw [List.mem_singleton.mp hx]; exact a.2.2), r.mv G.1⟩
/-- another output -/
theorem WXr.outp {r w : Nat} {t : List Nat} (K : WXr g N B I h own o p us cl ud uv uh ib iv ic os ow sdv scv lev cs σ) (H : OuW g I h r w t) : WXr g N B I h own o p us cl ud uv uh ib iv ic r w sdv scv lev cs (σ.1, σ.2.1, σ.2.2.1, (σ.2.2.2.1.1, t), σ.2.2.2.2) := by
  obtain ⟨a, b, c, d, e, n, s, i, -, q⟩ := K
  exact ⟨a, b, c, d, e, n, s, i, H, q⟩
theorem NodeAt.k1 {J : HM} : ∀ (n a : Nat) (l : List Nd), NodeAt J n a l → ∀ nd ∈ l, nd.1 = 1 → 1 ≤ nd.2.1 := by
  intro n
  induction n with
  | zero => intro a l H; exact H.elim
  | succ n ih =>
    intro a l H nd hnd h1
    obtain ⟨nd', cs, as, rfl, e2, e3, e4, e5, e6⟩ := H
    rcases List.mem_cons.mp hnd with e | e
    · rw [e] at h1 ⊢
      obtain ⟨da, st, sv, D, -, -, -, -, -, q, -⟩ := e5.1 (by omega)
      exact q h1
    · obtain ⟨c, hc, hx⟩ := List.mem_flatten.mp e
      obtain ⟨i, hi⟩ := List.getElem?_of_mem hc
      have hl2 := lt_of_getE hi
      exact ih _ c (e6 i _ c hi (List.getElem?_eq_getElem (by omega : i < as.length))) nd hx h1
theorem InW.app {x v2 : Nat} {own' : Nat → Nat} {t : List Nat} (K : InW g I h own ib iv ic t) (hI : Sub I h) (hl : t.length < 100) (hx : x < 128) (H : SBh g h' ib v2 (ncap ic (t.length + 1)) (t ++ [x])) (hv : v2 = iv ∨ h v2 = none) (ho : own' = fun y => if y = v2 then 6 else own y) : InW g I h' own' ib v2 (ncap ic (t.length + 1)) (t ++ [x]) := by
  obtain ⟨k1, ⟨a1, a2, a3, a4⟩, k3, k4, k5⟩ := K
  have h1 : I v2 = none := by
    rcases hv with e | e
    · rw [e]; exact a4
    · cases q : I v2 with
      | none => rfl
      | some y => rw [hI _ _ q] at e; cases e
  refine ⟨H, ⟨?_, ?_, a3, h1⟩, by rw [List.length_append, List.length_singleton]; omega, fun u hu => ?_, ?_⟩
  · rw [ho]; dsimp only; split
    · rfl
    · exact a1
  · rw [ho]; exact if_pos rfl
  · rcases List.mem_append.mp hu with q | q
    · exact k4 u q
    · rw [List.mem_singleton.mp q]; exact hx
  · unfold ncap
    split
    · exact k5
    · omega
/-- another input -/
theorem WXr.inp {S : List Nat} {own' : Nat → Nat} {ib' iv' ic' : Nat} {t : List Nat} (K : WXr g N B I h own o p us cl ud uv uh ib iv ic os ow sdv scv lev cs σ) (HO : h o ≠ none) (F : Fr g h h' S) (hS : ∀ x ∈ S, own x = 6 ∧ I x = none) (ho : ownK h own own') (H : InW g I h' own' ib' iv' ic' t) : WXr g N B I h' own' o p us cl ud uv uh ib' iv' ic' os ow sdv scv lev cs (σ.1, σ.2.1, σ.2.2.1, (t, σ.2.2.2.1.2), σ.2.2.2.2) := by
  obtain ⟨a, ⟨b1, b2, b3⟩, c, ⟨d1, d2⟩, e, ⟨n1, n2⟩, s, -, u, r⟩ := K
  have G : Gw I h I h' := (Gw.refl b1).fr F (fun x hx => Or.inl (hS x hx).2)
  have key : ∀ m : Nat, m ≠ 6 → ∀ x ∈ S, own x ≠ m := fun m hm x hx q => hm (by rw [(hS x hx).1] at q; exact q.symm)
  exact ⟨⟨a.1, (ho o HO).trans a.2.1, a.2.2⟩, ⟨G.2.1, b2, fun x hx => ⟨(ho x (b3 x hx).2.1).trans (b3 x hx).1, F.1 x (b3 x hx).2.1, (b3 x hx).2.2⟩⟩, c.mv G F (key _ (by have := n2 p List.mem_cons_self; omega)) ho, ⟨d1.mv G F (key 2 (by decide)) ho, d2⟩, e.mv G F (fun x hx => ⟨key 3 (by decide) x hx, fun q hq => key _ (by have := n2 q (List.mem_cons_of_mem _ hq); omega) x hx⟩) ho, ⟨n1, n2⟩, s.mv G F (fun x hx => ⟨key 4 (by decide) x hx, key 5 (by decide) x hx⟩) ho, H, u.mv G F (fun x hx => (hS x hx).2), r⟩
end
variable {N : Nat} {B : Nat → Prop} {o : Nat} {σ : Sp}
set_option maxRecDepth 100000 in
set_option maxHeartbeats 4000000 in
theorem kx_write (hG : GKx g) (K0 : KC g h) (W : WX g N B h o σ) (hO : spOk σ) (hL : dnLn σ.1) (hT : cpO σ.1.2.2.2 ≤ 20000 ∧ (txO σ.1.2.2.2).length ≤ 20000) (hd : 660 ≤ d) (hc : 21000 ≤ c) (hk : 70000 ≤ k) : Kc g mX1_write d c k [.ref o] h (XQ g N B h o (fun m : Int => "java/lang/IllegalStateException") (opWrite σ)) := by
  refine Kc.of (ls := [some (.ref o)]) (by decide +kernel) (Nat.le_of_ble_eq_true rfl) rfl ?_
  obtain ⟨I, own, ⟨pid, a, st, fo⟩, us, cl, ud, uv, uh, ib, iv, ic, os, ow, sdv, scv, lev, cs, HO, WR⟩ := id W
  have HO : h o = some (.inr (0, [.ref a, .ref cl, .ref ud, sdv, scv, .ref ib, .ref os, lev, vz σ.2.2.2.2.2.1, vz σ.2.2.2.2.1])) := HO
  obtain ⟨⟨hBo, ho1, hIo⟩, ⟨hSI, hCI, hBB⟩, KD, KCs, KU, KN, KS, KI, KOu, KE⟩ := id WR
  have H : DnC g I h a st fo σ.1 := KD.1
  have dO := hO.1
  obtain ⟨A, Bf, pv, sv, KDA, hA, hB9, hV⟩ := id H
  obtain ⟨k1, k2, k3, k4, k5, k6, k7, k8⟩ := id KDA
  unfold opWrite
  cases hp9 : σ.1.2.2.2 with
  | none =>
    rw [withP_none hp9]
    refine ev_aload_n dX1_write_0 rfl ?_
    refine ev_callV dX1_write_1 cv_X1_209_X1 ce_X1_checkPiece HO rfl rfl rfl (k_checkPieceF H HO hBo hG hp9) (by omega) (by omega) (by omega) (Nat.le_of_ble_eq_true rfl) (fun v h2 q => ?_) (fun E q h2 r => ?_)
    · obtain ⟨q9, e9, -⟩ := q; cases e9
    · obtain ⟨q9, e9, e8, e7⟩ := r
      cases e9
      exact evx_out rfl (XQ.no (by decide) rfl ⟨I, own, (pid, a, st, fo), us, cl, ud, uv, uh, ib, iv, ic, os, ow, sdv, scv, lev, cs, e8, WR.self e7⟩ e7 (fun x hx => by rw [List.mem_singleton.mp hx]; exact WR.nB))
  | some l =>
    rw [withP_some hp9]
    rw [hp9] at hV
    obtain ⟨pp, sc, ss, cu, ru, rfl, rfl, hN, SA, SB, ⟨s1, s2, s3, s4, s5, s6, s7⟩, hSA, hSB⟩ := hV
    have pf := pf_dn dO hp9
    replace s1 := hSI _ _ s1
    replace s2 := hSI _ _ s2
    have hcn := (hN.sub hSI).cls
    have hl9 := hL l hp9
    have hl2 : ∀ l, σ.1.2.2.2 = some l → l.length < 1000000 ∧ ∀ nd ∈ l, ndOk2 nd := fun l2 e => by rw [hp9] at e; cases e; exact ⟨by omega, pf.2.1.2⟩
    have htx : txt l 9 = txO σ.1.2.2.2 := by rw [hp9]; exact ch_txt9 pf.2.1.1 (fun nd hnd => ⟨pf.2.1.2 nd hnd, NodeAt.k1 81 pp l hN nd hnd⟩)
    refine ev_aload_n dX1_write_0 rfl ?_
    refine ev_callVN dX1_write_1 cv_X1_209_X1 ce_X1_checkPiece HO rfl rfl rfl (k_checkPieceT (d := 0) H HO hBo hp9) (by omega) (Nat.le_of_ble_eq_true rfl) ?_
    refine ev_aload_n dX1_write_4 rfl ?_
    refine ev_aload_n dX1_write_5 rfl ?_
    refine ev_getf dX1_write_6 gf_X1_37_X1 HO rfl ?_
    refine ev_callVR dX1_write_9 cv_X1_212_X2 ce_X2_text k1 rfl rfl rfl (k_textX2 (d := 650) (c := 21000) (k := 70000) hG hSI K0 H (by omega) (by omega) (by omega) (by omega) hl2) (by omega) (by omega) (by omega) (Nat.le_of_ble_eq_true rfl) (fun v1 hp_1 P1 => ?_)
    obtain ⟨r, w, rfl, hr0, hw0, hrB, hwB, hST, F1⟩ := P1
    have HO_2 := F1.keep HO (fun q => by cases q)
    have k1_3 := F1.keep k1 (fun q => by cases q)
    have s1_4 := F1.keep s1 (fun q => by cases q)
    have F5 := ((Fr.refl (g := g) _ [o])).call F1 nil_in
    obtain ⟨sA, sx, sy, hs1, hs2, hs3, hs4⟩ := id hST
    refine ev_putC [.ref a, .ref cl, .ref ud, sdv, scv, .ref ib, .ref r, lev, vz σ.2.2.2.2.2.1, vz σ.2.2.2.2.1] dX1_write_12 gf_X1_64_X1 HO_2 hBo (Or.inl rfl) rfl rfl (Nat.le_of_ble_eq_true rfl) rfl (fun hp_6 HO_7 f8 => ?_)
    have k1_9 := (f8 _ (ne_of k1_3 HO_2 (by simp))).trans k1_3
    have s1_10 := (f8 _ (ne_of s1_4 HO_2 (by simp))).trans s1_4
    have F11 := (F5).write (Or.inl ⟨_, HO_7⟩) f8 hBo (by simp)
    have hro : r ≠ o := fun e => by rw [e, HO] at hr0; cases hr0
    have hwo : w ≠ o := fun e => by rw [e, HO] at hw0; cases hw0
    refine ev_aload_n dX1_write_15 rfl ?_
    refine ev_getf dX1_write_16 gf_X1_64_X1 HO_7 rfl ?_
    have hST2 : STh hp_6 r w (txO σ.1.2.2.2) := ⟨sA, sx, sy, (f8 _ hro).trans hs1, (f8 _ hwo).trans hs2, hs3, hs4⟩
    obtain ⟨sA, sx, sy, hs1', hs2', hs3', hs4'⟩ := id hST2
    refine ev_callVE dX1_write_19 cv_X1_216_J7 ce_J7_length hs1' rfl rfl rfl (st_length hST2 hG) (by omega) (Nat.le_of_ble_eq_true rfl) ?_
    refine ev_ireturn dX1_write_22 rfl ?_
    have F8 := F11
    obtain ⟨J1, G1, s1, j1, -⟩ := Gw.ex ((Gw.refl hSI).fr F8 (fun x hx => Or.inl (by rw [List.mem_singleton.mp hx]; exact hIo))) hSI hs1' hr0
    obtain ⟨J2, G2, s2, j2, -⟩ := G1.ex hSI hs2' hw0
    have WR2 := WXr.mvo WR (by rw [HO]; exact fun q => by cases q) G2 F8
    have WR3 := WR2.outp (r := r) (w := w) (t := txt l 9) ⟨(by rw [htx]; exact hST2), (fun _ e => by rw [s2 _ _ j1] at e; cases e), (fun _ e => by rw [j2] at e; cases e)⟩
    rw [show (txO σ.1.2.2.2).length = (txt l 9).length by rw [htx]]
    exact XQ.ok ⟨J2, own, _, us, cl, ud, uv, uh, ib, iv, ic, r, w, sdv, scv, lev, cs, HO_7, WR3⟩ F8 (fun x hx => by rw [List.mem_singleton.mp hx]; exact WR.nB)
set_option maxRecDepth 100000 in
set_option maxHeartbeats 4000000 in
theorem kx_append (hG : GKx g) (K0 : KC g h) (W : WX g N B h o σ) (hO : spOk σ) {x : Int} (hr1 : 0 ≤ x ∧ x < 65536) (hd : 10 ≤ d) (hc : 3 ≤ c) (hk : 300 ≤ k) : Kc g mX1_append d c k [.ref o, vz x] h (XQ g N B h o (fun m : Int => if m = 1 then "java/lang/IllegalArgumentException" else "java/lang/UnsupportedOperationException") (opAppend σ x)) := by
  refine Kc.of (ls := [some (.ref o), some (vz x)]) (by decide +kernel) (Nat.le_of_ble_eq_true rfl) rfl ?_
  obtain ⟨I, own, ⟨pid, a, st, fo⟩, us, cl, ud, uv, uh, ib, iv, ic, os, ow, sdv, scv, lev, cs, HO, WR⟩ := id W
  have HO : h o = some (.inr (0, [.ref a, .ref cl, .ref ud, sdv, scv, .ref ib, .ref os, lev, vz σ.2.2.2.2.2.1, vz σ.2.2.2.2.1])) := HO
  obtain ⟨⟨hBo, ho1, hIo⟩, ⟨hSI, hCI, hBB⟩, KD, KCs, KU, KN, KS, KI, KOu, KE⟩ := id WR
  have H : DnC g I h a st fo σ.1 := KD.1
  have dO := hO.1
  obtain ⟨A, Bf, pv, sv, KDA, hA, hB9, hV⟩ := id H
  obtain ⟨k1, k2, k3, k4, k5, k6, k7, k8⟩ := id KDA
  unfold opAppend
  obtain ⟨KB, ⟨q1, q2, q3, q4⟩, ht100, ht8, hic⟩ := id KI
  obtain ⟨bA, hb1, hb2, hb3, hb4, hb5, hb6⟩ := id KB
  by_cases c9 : 32 ≤ x ∧ x ≤ 126
  · rw [if_pos c9]
    by_cases c8 : σ.2.2.2.1.1.length = 100
    · rw [if_pos c8]
      refine ev_iload_n dX1_append_0 rfl ?_
      refine ev_i2l dX1_append_1 ?_
      refine ev_ldc2 (v := 32) dX1_append_2 q1560 ?_
      refine ev_ldc2 (v := 126) dX1_append_5 q1561 ?_
      refine ev_callSE dX1_append_8 cs_X1_108 ce_X1_inRange rfl rfl (k_inRange (d := 0) (a := x) (lo := 32) (hi := 126) (by omega)) (by omega) (Nat.le_of_ble_eq_true rfl) ?_
      refine ev_callSN dX1_append_11 cs_X1_133 ce_X1_checkArgument rfl rfl (k_checkArgumentT (d := 0) (decide_eq_true c9)) (by omega) (Nat.le_of_ble_eq_true rfl) ?_
      refine ev_aload_n dX1_append_14 rfl ?_
      refine ev_getf dX1_append_15 gf_X1_58_X1 HO rfl ?_
      refine ev_callVE dX1_append_18 cv_X1_162_J6 ce_J6_length hb1 rfl rfl rfl (sb_length KB) (by omega) (Nat.le_of_ble_eq_true rfl) ?_
      refine ev_bipushZ dX1_append_21 rfl ?_
      refine ev_icmp_geZ (tgt := 30) dX1_append_23 (by decide) (by omega) (by omega) (fun c23 => ?_) (fun c23 => by omega)
      refine ev_iconstZ dX1_append_30 ?_
      refine ev_callS dX1_append_31 cs_X1_165 ce_X1_checkAllowed rfl rfl (k_checkAllowedF (b := false) hG rfl) (by omega) (by omega) (by omega) (Nat.le_of_ble_eq_true rfl) (fun v h2 q => ?_) (fun E q h2 r => ?_)
      · obtain ⟨q9, e9, -⟩ := q; cases e9
      · obtain ⟨q9, e9, rfl⟩ := r
        cases e9
        exact evx_out rfl (XQ.no (by decide) rfl W (Fr.refl _ []) nil_B)
    · rw [if_neg c8]
      obtain ⟨u, rfl⟩ := toB x hr1.1
      have hu8 : u < 128 := by omega
      refine ev_iload_n dX1_append_0 rfl ?_
      refine ev_i2l dX1_append_1 ?_
      refine ev_ldc2 (v := 32) dX1_append_2 q1560 ?_
      refine ev_ldc2 (v := 126) dX1_append_5 q1561 ?_
      refine ev_callSE dX1_append_8 cs_X1_108 ce_X1_inRange rfl rfl (k_inRange (d := 0) (a := ((u : Nat) : Int)) (lo := 32) (hi := 126) (by omega)) (by omega) (Nat.le_of_ble_eq_true rfl) ?_
      refine ev_callSN dX1_append_11 cs_X1_133 ce_X1_checkArgument rfl rfl (k_checkArgumentT (d := 0) (decide_eq_true c9)) (by omega) (Nat.le_of_ble_eq_true rfl) ?_
      refine ev_aload_n dX1_append_14 rfl ?_
      refine ev_getf dX1_append_15 gf_X1_58_X1 HO rfl ?_
      refine ev_callVE dX1_append_18 cv_X1_162_J6 ce_J6_length hb1 rfl rfl rfl (sb_length KB) (by omega) (Nat.le_of_ble_eq_true rfl) ?_
      refine ev_bipushZ dX1_append_21 rfl ?_
      refine ev_icmp_geZ (tgt := 30) dX1_append_23 (by decide) (by omega) (by omega) (fun c23 => by omega) (fun c23 => ?_)
      refine ev_iconstZ dX1_append_26 ?_
      refine ev_goto (tgt := 31) dX1_append_27 (by decide) ?_
      refine ev_callSN dX1_append_31 cs_X1_165 ce_X1_checkAllowed rfl rfl (k_checkAllowedT (d := 0) (b := true) rfl) (by omega) (Nat.le_of_ble_eq_true rfl) ?_
      refine ev_aload_n dX1_append_34 rfl ?_
      refine ev_getf dX1_append_35 gf_X1_58_X1 HO rfl ?_
      refine ev_iload_n dX1_append_38 rfl ?_
      refine ev_callVR dX1_append_39 cv_X1_168_J6 ce_J6_append_3 hb1 rfl rfl rfl (sb_appc (c := 1) (k := 250) hG KB hu8 ⟨by omega, by omega⟩ (fun q => ⟨Nat.le_refl _, by unfold ncap; rw [if_neg (by omega)]; omega⟩)) (by omega) (by omega) (by omega) (Nat.le_of_ble_eq_true rfl) (fun v1 h2 P1 => ?_)
      obtain ⟨rfl, v2, KB2, hv2, F2⟩ := P1
      obtain ⟨bA2, hb1', hb2', hb3', hb4', hb5', hb6'⟩ := id KB2
      have hS6 : ∀ x ∈ [ib, iv], own x = 6 ∧ I x = none := fun x hx => by
        simp only [List.mem_cons, List.not_mem_nil, or_false] at hx
        rcases hx with rfl | rfl
        · exact ⟨q1, q3⟩
        · exact ⟨q2, q4⟩
      have HO2 := F2.keep HO (fun e => by have := (hS6 o e).1; rw [ho1] at this; cases this)
      refine ev_pop dX1_append_42 rfl ?_
      refine ev_aload_n dX1_append_43 rfl ?_
      refine ev_getf dX1_append_44 gf_X1_58_X1 HO2 rfl ?_
      refine ev_callVE dX1_append_47 cv_X1_162_J6 ce_J6_length hb1' rfl rfl rfl (sb_length KB2) (by omega) (Nat.le_of_ble_eq_true rfl) ?_
      refine ev_ireturn dX1_append_50 rfl ?_
      have ho9 : ownK h own (fun y => if y = v2 then 6 else own y) := fun y hy => by
        show (if y = v2 then 6 else own y) = own y
        by_cases e : y = v2
        · rw [if_pos e, e]
          rcases hv2 with e2 | e2
          · rw [e2]; exact q2.symm
          · rw [e] at hy; exact absurd e2 hy
        · rw [if_neg e]
      have WR2 := WXr.inp WR (by rw [HO]; exact fun q => by cases q) F2 hS6 ho9 (KI.app hSI (by omega) hu8 KB2 hv2 rfl)
      rw [Int.toNat_natCast, show (((σ.2.2.2.1.1 ++ [u]).length : Nat) : Int) = ((σ.2.2.2.1.1.length : Nat) : Int) + 1 by rw [List.length_append, List.length_singleton]; omega]
      exact XQ.ok ⟨I, _, _, us, cl, ud, uv, uh, ib, v2, _, os, ow, sdv, scv, lev, cs, HO2, WR2⟩ F2 (fun x hx e => by have := (hS6 x hx).1; have := (hBB x e).1; omega)
  · rw [if_neg c9]
    refine ev_iload_n dX1_append_0 rfl ?_
    refine ev_i2l dX1_append_1 ?_
    refine ev_ldc2 (v := 32) dX1_append_2 q1560 ?_
    refine ev_ldc2 (v := 126) dX1_append_5 q1561 ?_
    refine ev_callSE dX1_append_8 cs_X1_108 ce_X1_inRange rfl rfl (k_inRange (d := 0) (a := x) (lo := 32) (hi := 126) (by omega)) (by omega) (Nat.le_of_ble_eq_true rfl) ?_
    refine ev_callS dX1_append_11 cs_X1_133 ce_X1_checkArgument rfl rfl (k_checkArgumentF hG (decide_eq_false c9)) (by omega) (by omega) (by omega) (Nat.le_of_ble_eq_true rfl) (fun v h2 q => ?_) (fun E q h2 r => ?_)
    · obtain ⟨q9, e9, -⟩ := q; cases e9
    · obtain ⟨q9, e9, rfl⟩ := r
      cases e9
      exact evx_out rfl (XQ.no (by decide) rfl W (Fr.refl _ []) nil_B)
end Y3S

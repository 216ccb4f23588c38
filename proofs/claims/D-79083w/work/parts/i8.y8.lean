/-! THE COMPONENT: the class, read (printed by gen) -/
section Y8S
variable {g : GB} {M : MI} {d c k : Nat} {h : HM}
section
variable {N : Nat} {B : Nat → Prop} {I J h h' : HM} {own : Nat → Nat} {o : Nat} {p : Dp} {us : List Dp} {cl ud uv uh ib iv ic os ow : Nat} {sdv scv lev : Value} {cs : List Cm} {σ : Sp}
theorem fold_err : ∀ (vs : List Me) (acc : Except Er Op) (e : Er), vs.foldl mergeE acc = .error e → acc = .error e ∨ ∃ v ∈ vs, v = .error e := by
  intro vs
  induction vs with
  | nil => intro acc e h; exact Or.inl h
  | cons v vs ih =>
    intro acc e h
    rcases ih (mergeE acc v) e h with q | ⟨v', h1, h2⟩
    · cases acc with
      | error e0 => exact Or.inl q
      | ok O =>
        cases v with
        | error e0 => exact Or.inr ⟨_, List.mem_cons_self, by cases q; rfl⟩
        | ok P => cases q
    · exact Or.inr ⟨v', List.mem_cons_of_mem _ h1, h2⟩
theorem sem_e1 : ∀ (n : Nat) (l : List Nd), TR n l → ∀ e : Er, sem l = .error e → e.1 = 1 ∨ e.1 = 2 := by
  intro n
  induction n with
  | zero => intro l h; exact h.elim
  | succ n ih =>
    intro l h e he
    obtain ⟨nd, cs, rfl, hc, hk, hcs⟩ := h
    rw [sem_node hc hcs] at he
    unfold semA at he
    split at he
    · unfold leafE at he
      split at he
      · cases he
      · split at he
        · cases he; exact Or.inl rfl
        · split at he
          · cases he; exact Or.inr rfl
          · cases he
    · unfold closeV at he
      cases hf : (cs.map sem).foldl mergeE (.ok (openO nd)) with
      | error e0 =>
        rw [hf] at he
        cases he
        rcases fold_err _ _ _ hf with q | ⟨v, h1, h2⟩
        · cases q
        · obtain ⟨c, hc1, rfl⟩ := List.mem_map.mp h1
          exact ih c (hcs c hc1) _ h2
      | ok O =>
        rw [hf] at he
        dsimp only at he
        unfold closeE at he
        split at he
        · cases he; exact Or.inl rfl
        · split at he
          · cases he; exact Or.inr rfl
          · cases he
/-- another input; the object is written -/
theorem WXr.inpo {own' : Nat → Nat} {ib' iv' ic' : Nat} {t : List Nat} (K : WXr g N B I h own o p us cl ud uv uh ib iv ic os ow sdv scv lev cs σ) (HO : h o ≠ none) (F : Fr g h h' [o]) (ho : ownK h own own') (H : InW g I h' own' ib' iv' ic' t) : WXr g N B I h' own' o p us cl ud uv uh ib' iv' ic' os ow sdv scv lev cs (σ.1, σ.2.1, σ.2.2.1, (t, σ.2.2.2.1.2), σ.2.2.2.2) := by
  obtain ⟨a, ⟨b1, b2, b3⟩, c, ⟨d1, d2⟩, e, ⟨n1, n2⟩, s, i, u, r⟩ := K
  have G : Gw I h I h' := (Gw.refl b1).fr F (fun x hx => Or.inl (by rw [List.mem_singleton.mp hx]; exact a.2.2))
  have key : ∀ m : Nat, m ≠ 1 → ∀ x ∈ [o], own x ≠ m := fun m hm x hx q => hm (by rw [List.mem_singleton.mp hx, a.2.1] at q; exact q.symm)
  exact ⟨⟨a.1, (ho o HO).trans a.2.1, a.2.2⟩, ⟨G.2.1, b2, fun x hx => ⟨(ho x (b3 x hx).2.1).trans (b3 x hx).1, F.1 x (b3 x hx).2.1, (b3 x hx).2.2⟩⟩, c.mv G F (key _ (by have := n2 p List.mem_cons_self; omega)) ho, ⟨d1.mv G F (key 2 (by decide)) ho, d2⟩, e.mv G F (fun x hx => ⟨key 3 (by decide) x hx, fun q hq => key _ (by have := n2 q (List.mem_cons_of_mem _ hq); omega) x hx⟩) ho, ⟨n1, n2⟩, s.mv G F (fun x hx => ⟨key 4 (by decide) x hx, key 5 (by decide) x hx⟩) ho, H, u.mv G F (fun x hx => by rw [List.mem_singleton.mp hx]; exact a.2.2), r⟩
/-- what is labelled 7 is none of the object's -/
theorem WXr.mv7 {S : List Nat} (K : WXr g N B I h own o p us cl ud uv uh ib iv ic os ow sdv scv lev cs σ) (HO : h o ≠ none) (G : Gw I h J h') (F : Fr g h h' S) (hS : ∀ x ∈ S, own x = 7 ∧ I x = none) : WXr g N B J h' own o p us cl ud uv uh ib iv ic os ow sdv scv lev cs σ := by
  obtain ⟨a, ⟨b1, b2, b3⟩, c, ⟨d1, d2⟩, e, ⟨n1, n2⟩, s, i, u, r⟩ := K
  have key : ∀ m : Nat, m ≠ 7 → ∀ x ∈ S, own x ≠ m := fun m hm x hx q => hm (by rw [(hS x hx).1] at q; exact q.symm)
  exact ⟨⟨a.1, a.2.1, G.nn HO a.2.2⟩, ⟨G.2.1, G.cap b2, fun x hx => ⟨(b3 x hx).1, F.1 x (b3 x hx).2.1, G.nn (b3 x hx).2.1 (b3 x hx).2.2⟩⟩, c.mv G F (key _ (by have := n2 p List.mem_cons_self; omega)) ownK.refl, ⟨d1.mv G F (key 2 (by decide)) ownK.refl, d2⟩, e.mv G F (fun x hx => ⟨key 3 (by decide) x hx, fun q hq => key _ (by have := n2 q (List.mem_cons_of_mem _ hq); omega) x hx⟩) ownK.refl, ⟨n1, n2⟩, s.mv G F (fun x hx => ⟨key 4 (by decide) x hx, key 5 (by decide) x hx⟩) ownK.refl, i.mv G F (key 6 (by decide)) ownK.refl, u.mv G F (fun x hx => (hS x hx).2), r.mv G.1⟩
/-- another last error -/
theorem WXr.err {lev' : Value} {e' r' f' : Int} (K : WXr g N B I h own o p us cl ud uv uh ib iv ic os ow sdv scv lev cs σ) (H : ErW I lev' e') : WXr g N B I h own o p us cl ud uv uh ib iv ic os ow sdv scv lev' cs (σ.1, σ.2.1, σ.2.2.1, σ.2.2.2.1, (r', f', e')) := by
  obtain ⟨a, ⟨b1, b2, b3⟩, c, ⟨d1, d2⟩, e, ⟨n1, n2⟩, s, i, u, r⟩ := K
  exact ⟨a, ⟨b1, b2, b3⟩, c, ⟨d1, d2⟩, e, ⟨n1, n2⟩, s, i, u, H⟩
/-- what reading the text t makes of σ (whose input is gone) -/
def rdR (σ : Sp) (t : List Nat) : Rs := match parse t with
  | .error e => (1, 0, (σ.1, σ.2.1, σ.2.2.1, σ.2.2.2.1, (σ.2.2.2.2.1, σ.2.2.2.2.2.1, (e : Int))))
  | .ok l => match sem (tidy l) with
    | .error e => (2, 0, (σ.1, σ.2.1, σ.2.2.1, σ.2.2.2.1, ((e.1 : Int), (if e.1 = 1 then e.2 else σ.2.2.2.2.2.1), σ.2.2.2.2.2.2)))
    | .ok P => (0, (P.1.1 : Int), keepSp σ (wPiece σ.1 (tidy l)))
theorem rdR_op (σ : Sp) : rdR (inp0 σ) σ.2.2.2.1.1 = opRead σ := by
  unfold rdR opRead
  cases parse σ.2.2.2.1.1 with
  | error e => rfl
  | ok l =>
    dsimp only
    cases sem (tidy l) with
    | error e => rfl
    | ok P => rfl
set_option maxRecDepth 100000 in
set_option maxHeartbeats 4000000 in
theorem rd23 (hG : GKx g) (K0 : KC g h) (HO : h o = some (.inr (0, [.ref p.2.1, .ref cl, .ref ud, sdv, scv, .ref ib, .ref os, lev, vz σ.2.2.2.2.2.1, vz σ.2.2.2.2.1]))) (WR : WXr g N B I h own o p us cl ud uv uh ib iv ic os ow sdv scv lev cs σ) {ps tb tv cap : Nat} {t : List Nat} (hps : own ps = 7 ∧ I ps = none ∧ gB g ≤ ps) (HP : ParC h ps tb 0 0) (HT : SBh g h tb tv cap t) (hu9 : ∀ u ∈ t, u < 128) (hl : t.length ≤ 100) (hd : 600 ≤ d) (hc : 3000 ≤ c) (hk : 110000 ≤ k) (z1 z2 : Option Value) : Ev g mX1_read d c k (XQ g (N + 1) B h o (fun m : Int => if m = 1 then "java/lang/IllegalArgumentException" else "java/lang/UnsupportedOperationException") (rdR σ t)) 23 [some (.ref o), some (.ref ps), z1, z2] [] h := by
  have hSI := WR.2.1.1
  have HOn : h o ≠ none := by rw [HO]; exact fun q => by cases q
  have hBo := WR.1.1
  have hps7 : ∀ x ∈ [ps], own x = 7 ∧ I x = none := fun x hx => by rw [List.mem_singleton.mp hx]; exact ⟨hps.1, hps.2.1⟩
  have hops : o ∉ [ps] := fun e => by have := (hps7 o e).1; rw [WR.1.2.1] at this; cases this
  have hBps : ∀ x ∈ [ps, o], ¬ B x := fun x hx e => by
    have h1 := (WR.2.1.2.2 x e).1
    simp only [List.mem_cons, List.not_mem_nil, or_false] at hx
    rcases hx with rfl | rfl
    · rw [hps.1] at h1; cases h1
    · rw [WR.1.2.1] at h1; cases h1
  unfold rdR
  cases hpt : parse t with
  | error e =>
    dsimp only
    refine ev_aload_n dX1_read_23 rfl ?_
    refine ev_callV dX1_read_24 cv_X1_177_X6 ce_X6_whole HP rfl rfl rfl (by have w := k_whole hG K0 hps.2.2 hu9 hl hSI hps.2.1 HP HT (Nat.le_refl 80) (Nat.le_refl 2020) (Nat.le_refl 100600); rw [hpt] at w; exact w) (by omega) (by omega) (by omega) (Nat.le_of_ble_eq_true rfl) (fun v h2 q => ?_) (fun E q h2 r => ?_)
    · obtain ⟨q9, p9, e9, -⟩ := q; cases e9
    · obtain ⟨q9, p9, e9, hq0, hq, HP2, F2⟩ := r
      cases e9
      refine evx_catchT [] ⟨23, 41, 42, 191⟩ [⟨23, 41, 42, 193⟩] rfl (fun z hz => by cases hz) rfl (by decide) q1589 q1685 ?_
      have HO2 := F2.keep HO hops
      have F2p : Fr g h h2 [ps, o] := F2.more (fun x hx => Or.inl (by rw [List.mem_singleton.mp hx]; simp))
      obtain ⟨J, G1, s1, j1, -⟩ := Gw.ex ((Gw.refl hSI).fr F2 (fun x hx => Or.inl (hps7 x hx).2)) hSI hq hq0
      have WR2 := WXr.mv7 WR HOn G1 F2 hps7
      refine ev_astore_n dX1_read_42 (by decide) rfl ?_
      dsimp only [List.set]
      refine ev_aload_n dX1_read_43 rfl ?_
      refine ev_instNZ (i := 43) hG dX1_read_44 q1590 hq rfl rfl ?_
      refine ev_if_eqZ (tgt := 94) dX1_read_47 (by decide) (by omega) (fun c47 => ?_) (fun c47 => by omega)
      refine ev_aload_n dX1_read_94 rfl ?_
      refine ev_aload_n dX1_read_95 rfl ?_
      refine ev_castY dX1_read_96 q1589 hq rfl (Or.inl rfl) ?_
      refine ev_putC [.ref p.2.1, .ref cl, .ref ud, sdv, scv, .ref ib, .ref os, .ref q, vz σ.2.2.2.2.2.1, vz σ.2.2.2.2.1] dX1_read_99 gf_X1_199_X1 HO2 hBo (Or.inl rfl) rfl rfl (Nat.le_of_ble_eq_true rfl) rfl (fun hp_1 HO2_2 f3 => ?_)
      have hq_4 := (f3 _ (ne_of hq HO2 (by simp))).trans hq
      have F5 := (F2p).write (Or.inl ⟨_, HO2_2⟩) f3 hBo (by simp)
      have HO3 := HO2_2
      have F3 : Fr g h hp_1 [ps, o] := F5
      have Fo3 := (Fr.refl (g := g) h2 [o]).write (Or.inl ⟨_, HO3⟩) f3 hBo (by simp)
      have WR3 := (WXr.self WR2 Fo3).err (r' := σ.2.2.2.2.1) (f' := σ.2.2.2.2.2.1) (Or.inr ⟨by omega, q, rfl, j1⟩)
      refine ev_throw0 (cls := "java/lang/IllegalArgumentException") (names := ["java/lang/RuntimeException", "java/lang/Exception"]) (ik := 1) (ic := 3) hG (by decide +kernel) (by decide +kernel) q1415 q133 [130, 400, 409, 419, 422, 424, 401, 402, 183, 184, 403, 408, 420, 643, 390, 644, 392, 645, 394, 404, 406, 396, 1417, 1418, 1419, 848, 381, 848, 849, 850, 851, 383, 851, 852, 853, 401, 385, 1416, 615, 616, 617, 415, 618, 619, 620, 621, 641, 398, 622] (by decide +kernel) (by decide +kernel) (by decide +kernel) dX1_read_102 dX1_read_105 dX1_read_106 dX1_read_109 (by decide +kernel) (by simp only [List.length_cons, List.length_nil]; omega) (Nat.le_of_ble_eq_true rfl) (by omega) (by omega) (fun q => XQ.no (by decide) rfl (WX.le ⟨J, own, p, us, cl, ud, uv, uh, ib, iv, ic, os, ow, sdv, scv, _, cs, HO3, WR3⟩ (Nat.le_succ N)) F3 hBps)
  | ok l =>
    dsimp only
    have pk := parse_pcOk hl hpt
    have hwt := parse_wt hpt
    have hwl := wtL_len (tidy l)
    have hn300 : (tidy l).length ≤ 300 := by omega
    refine ev_aload_n dX1_read_23 rfl ?_
    refine ev_callV dX1_read_24 cv_X1_177_X6 ce_X6_whole HP rfl rfl rfl (by have w := k_whole hG K0 hps.2.2 hu9 hl hSI hps.2.1 HP HT (Nat.le_refl 80) (Nat.le_refl 2020) (Nat.le_refl 100600); rw [hpt] at w; exact w) (by omega) (by omega) (by omega) (Nat.le_of_ble_eq_true rfl) (fun v h2 q => ?_) (fun E q h2 r => ?_)
    · obtain ⟨a, n, J, e9, G, hN, F2⟩ := q
      cases e9
      have HO2 := F2.keep HO hops
      have hN81 : NodeAt J 81 a (tidy l) := NodeAt.down n 81 a _ hN pk.1
      have hN2 := hN81.sub G.2.1
      refine ev_astore_n dX1_read_27 (by decide) rfl ?_
      dsimp only [List.set]
      refine ev_aload_n dX1_read_28 rfl ?_
      refine ev_callNQ dX1_read_29 (nv_X1_181 hG) fe_checkAll (hN2.cls) rfl rfl (by rw [fcA]; exact n_checkAll hG 81 a (tidy l) hN2 (by omega) pk.2) (by omega) (by omega) (by omega) (Nat.le_of_ble_eq_true rfl) (fun v h3 q => ?_) (fun E q h3 r => ?_)
      · obtain ⟨hn9, rfl, rfl⟩ := chQ_inl q
        cases hse : sem (tidy l) with
        | error e => rw [hse] at hn9; cases hn9
        | ok P =>
          dsimp only
          have hsm : sem (tidy l) = .ok (mean (tidy l)) := by rw [mean_of hse]; exact hse
          have WR2 := WXr.mv7 WR HOn G F2 hps7
          refine ev_aload_n dX1_read_32 rfl ?_
          refine ev_aload_n dX1_read_33 rfl ?_
          refine ev_callVR dX1_read_34 cv_X1_186_X1 ce_X1_setPiece HO2 rfl rfl rfl (k_setPieceX1 hG HO2 WR2 hN81 pk hsm (by omega) (Nat.le_refl 510) (Nat.le_refl 30) (Nat.le_refl 1000)) (by omega) (by omega) (by omega) (Nat.le_of_ble_eq_true rfl) (fun v1 h9 P1 => ?_)
          obtain ⟨rfl, W9, hS9, S9, F9, hB9⟩ := P1
          refine ev_aload_n dX1_read_37 rfl ?_
          refine ev_callNE dX1_read_38 (nv_X1_190 hG) fe_length ((hN81.sub hS9).cls) rfl rfl (n_len hG 81 a (tidy l) (hN81.sub hS9) (by omega) pk.2 ⟨_, hse⟩) (by omega) (Nat.le_of_ble_eq_true rfl) ?_
          refine ev_ireturn dX1_read_41 rfl ?_
          rw [(len_ok 81 (tidy l) pk.1 pk.2 _ hse).1]
          exact XQ.ok W9 ((F2.more (S' := [ps, o] ++ S9) (fun x hx => Or.inl (by rw [List.mem_singleton.mp hx]; simp))).call F9 (fun x hx => Or.inl (List.mem_append_right _ hx))) (B_app hBps hB9)
      · cases hse : sem (tidy l) with
        | ok P => rw [hse] at r; obtain ⟨e9, -⟩ := r; cases e9
        | error e =>
          rw [hse] at r
          obtain ⟨q9, e9, hq, F3⟩ := r
          cases e9
          refine evx_catchT [⟨23, 41, 42, 191⟩] ⟨23, 41, 42, 193⟩ [] rfl (fun z hz => by rw [List.mem_singleton.mp hz]; exact Pass.of (i := 36) (nm := "DanceNotation$SyntaxException") hG rfl (by decide) q1589) rfl (by decide) q1590 q1989 ?_
          dsimp only
          have WR3 := WXr.mv7 WR HOn (G.fr0 F3) (F2.call F3 nil_in) hps7
          have HO3 := F3.keep HO2 (fun q => by cases q)
          have F3p : Fr g h h3 [ps, o] := (F2.call F3 nil_in).more (fun x hx => Or.inl (by rw [List.mem_singleton.mp hx]; simp))
          have he12 := sem_e1 81 (tidy l) pk.1 e hse
          have hin2 := sem_err pk hse
          by_cases he1 : e.1 = 1
          · refine ev_astore_n dX1_read_42 (by decide) rfl ?_
            dsimp only [List.set]
            refine ev_aload_n dX1_read_43 rfl ?_
            refine ev_instYZ dX1_read_44 q1590 hq rfl rfl ?_
            refine ev_if_eqZ (tgt := 94) dX1_read_47 (by decide) (by omega) (fun c47 => by omega) (fun c47 => ?_)
            refine ev_aload_n dX1_read_50 rfl ?_
            refine ev_castY dX1_read_51 q1590 hq rfl (Or.inl rfl) ?_
            refine ev_astore_n dX1_read_54 (by decide) rfl ?_
            dsimp only [List.set]
            refine ev_aload_n dX1_read_55 rfl ?_
            refine ev_aload_n dX1_read_56 rfl ?_
            refine ev_getf dX1_read_57 gf_X1_195_X17 hq rfl ?_
            refine ev_putC [.ref p.2.1, .ref cl, .ref ud, sdv, scv, .ref ib, .ref os, lev, vz σ.2.2.2.2.2.1, vz ((e.1 : Nat) : Int)] dX1_read_60 gf_X1_16_X1 HO3 hBo (Or.inl rfl) rfl rfl (Nat.le_of_ble_eq_true rfl) rfl (fun hp_1 HO3_2 f3 => ?_)
            have hq_4 := (f3 _ (ne_of hq HO3 (by simp))).trans hq
            have F5 := (F3p).write (Or.inl ⟨_, HO3_2⟩) f3 hBo (by simp)
            have HO4 := HO3_2
            have Fo4 := (Fr.refl (g := g) h3 [o]).write (Or.inl ⟨_, HO4⟩) f3 hBo (by simp)
            refine ev_aload_n dX1_read_63 rfl ?_
            refine ev_aload_n dX1_read_64 rfl ?_
            refine ev_getf dX1_read_65 gf_X1_195_X17 hq_4 rfl ?_
            refine ev_iconstZ dX1_read_68 ?_
            refine ev_icmp_neZ (tgt := 79) dX1_read_69 (by decide) (by omega) (by omega) (fun c69 => by omega) (fun c69 => ?_)
            refine ev_aload_n dX1_read_72 rfl ?_
            refine ev_getf dX1_read_73 gf_X1_196_X17 hq_4 rfl ?_
            refine ev_goto (tgt := 83) dX1_read_76 (by decide) ?_
            refine ev_putC [.ref p.2.1, .ref cl, .ref ud, sdv, scv, .ref ib, .ref os, lev, vz e.2, vz ((e.1 : Nat) : Int)] dX1_read_83 gf_X1_68_X1 HO3_2 hBo (Or.inl rfl) rfl rfl (Nat.le_of_ble_eq_true rfl) rfl (fun hp_6 HO3_7 f8 => ?_)
            have hq_9 := (f8 _ (ne_of hq_4 HO3_2 (by simp))).trans hq_4
            have F10 := (F5).write (Or.inl ⟨_, HO3_7⟩) f8 hBo (by simp)
            have HO5 := HO3_7
            have F5 : Fr g h hp_6 [ps, o] := F10
            have Fo5 := Fo4.call ((Fr.refl (g := g) hp_1 [o]).write (Or.inl ⟨_, HO5⟩) f8 hBo (by simp)) (fun x hx => Or.inl hx)
            have WR5 := (WXr.self WR3 Fo5)
            rw [if_pos he1]
            refine ev_throw0 (cls := "java/lang/UnsupportedOperationException") (names := ["java/lang/RuntimeException", "java/lang/Exception"]) (ik := 13) (ic := 15) hG (by decide +kernel) (by decide +kernel) q1566 q149 [130, 400, 409, 419, 422, 424, 401, 402, 183, 184, 403, 408, 420, 643, 390, 644, 392, 645, 394, 404, 406, 396, 1576, 1577, 1578, 848, 381, 848, 849, 850, 851, 383, 851, 852, 853, 401, 385, 1575, 1567, 1568, 1569, 417, 1570, 1571, 1572, 1573, 641, 398, 1574] (by decide +kernel) (by decide +kernel) (by decide +kernel) dX1_read_86 dX1_read_89 dX1_read_90 dX1_read_93 (by decide +kernel) (by simp only [List.length_cons, List.length_nil]; omega) (Nat.le_of_ble_eq_true rfl) (by omega) (by omega) (fun q => XQ.no (by decide) rfl (WX.le ⟨_, own, p, us, cl, ud, uv, uh, ib, iv, ic, os, ow, sdv, scv, lev, cs, HO5, WR5⟩ (Nat.le_succ N)) F5 hBps)
          · refine ev_astore_n dX1_read_42 (by decide) rfl ?_
            dsimp only [List.set]
            refine ev_aload_n dX1_read_43 rfl ?_
            refine ev_instYZ dX1_read_44 q1590 hq rfl rfl ?_
            refine ev_if_eqZ (tgt := 94) dX1_read_47 (by decide) (by omega) (fun c47 => by omega) (fun c47 => ?_)
            refine ev_aload_n dX1_read_50 rfl ?_
            refine ev_castY dX1_read_51 q1590 hq rfl (Or.inl rfl) ?_
            refine ev_astore_n dX1_read_54 (by decide) rfl ?_
            dsimp only [List.set]
            refine ev_aload_n dX1_read_55 rfl ?_
            refine ev_aload_n dX1_read_56 rfl ?_
            refine ev_getf dX1_read_57 gf_X1_195_X17 hq rfl ?_
            refine ev_putC [.ref p.2.1, .ref cl, .ref ud, sdv, scv, .ref ib, .ref os, lev, vz σ.2.2.2.2.2.1, vz ((e.1 : Nat) : Int)] dX1_read_60 gf_X1_16_X1 HO3 hBo (Or.inl rfl) rfl rfl (Nat.le_of_ble_eq_true rfl) rfl (fun hp_1 HO3_2 f3 => ?_)
            have hq_4 := (f3 _ (ne_of hq HO3 (by simp))).trans hq
            have F5 := (F3p).write (Or.inl ⟨_, HO3_2⟩) f3 hBo (by simp)
            have HO4 := HO3_2
            have Fo4 := (Fr.refl (g := g) h3 [o]).write (Or.inl ⟨_, HO4⟩) f3 hBo (by simp)
            refine ev_aload_n dX1_read_63 rfl ?_
            refine ev_aload_n dX1_read_64 rfl ?_
            refine ev_getf dX1_read_65 gf_X1_195_X17 hq_4 rfl ?_
            refine ev_iconstZ dX1_read_68 ?_
            refine ev_icmp_neZ (tgt := 79) dX1_read_69 (by decide) (by omega) (by omega) (fun c69 => ?_) (fun c69 => by omega)
            refine ev_aload_n dX1_read_79 rfl ?_
            refine ev_getf dX1_read_80 gf_X1_68_X1 HO3_2 rfl ?_
            refine ev_putC [.ref p.2.1, .ref cl, .ref ud, sdv, scv, .ref ib, .ref os, lev, vz σ.2.2.2.2.2.1, vz ((e.1 : Nat) : Int)] dX1_read_83 gf_X1_68_X1 HO3_2 hBo (Or.inl rfl) rfl rfl (Nat.le_of_ble_eq_true rfl) rfl (fun hp_6 HO3_7 f8 => ?_)
            have hq_9 := (f8 _ (ne_of hq_4 HO3_2 (by simp))).trans hq_4
            have F10 := (F5).write (Or.inl ⟨_, HO3_7⟩) f8 hBo (by simp)
            have HO5 := HO3_7
            have F5 : Fr g h hp_6 [ps, o] := F10
            have Fo5 := Fo4.call ((Fr.refl (g := g) hp_1 [o]).write (Or.inl ⟨_, HO5⟩) f8 hBo (by simp)) (fun x hx => Or.inl hx)
            have WR5 := (WXr.self WR3 Fo5)
            rw [if_neg he1]
            refine ev_throw0 (cls := "java/lang/UnsupportedOperationException") (names := ["java/lang/RuntimeException", "java/lang/Exception"]) (ik := 13) (ic := 15) hG (by decide +kernel) (by decide +kernel) q1566 q149 [130, 400, 409, 419, 422, 424, 401, 402, 183, 184, 403, 408, 420, 643, 390, 644, 392, 645, 394, 404, 406, 396, 1576, 1577, 1578, 848, 381, 848, 849, 850, 851, 383, 851, 852, 853, 401, 385, 1575, 1567, 1568, 1569, 417, 1570, 1571, 1572, 1573, 641, 398, 1574] (by decide +kernel) (by decide +kernel) (by decide +kernel) dX1_read_86 dX1_read_89 dX1_read_90 dX1_read_93 (by decide +kernel) (by simp only [List.length_cons, List.length_nil]; omega) (Nat.le_of_ble_eq_true rfl) (by omega) (by omega) (fun q => XQ.no (by decide) rfl (WX.le ⟨_, own, p, us, cl, ud, uv, uh, ib, iv, ic, os, ow, sdv, scv, lev, cs, HO5, WR5⟩ (Nat.le_succ N)) F5 hBps)
    · obtain ⟨a, n, J, e9, -⟩ := r
      cases e9
end
end Y8S

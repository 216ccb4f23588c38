/-! THE COMPONENT: the parser, whole (printed by gen) -/
section V8S
variable {g : GB} {M : MI} {d c k : Nat} {h : HM}
variable {I h0 J : HM} {ps tb tv cap ne m : Nat} {t : List Nat}
theorem parser_ok (hG : GKx g) (hu9 : ∀ u ∈ t, u < 128) (hl : t.length ≤ 100) : ∀ f m nst p : Nat, m ≤ 3 → PCon g t f m nst p := by
  intro f
  induction f using Nat.strongRecOn with
  | ind f ih =>
    intro m nst p hm I h ps tb tv cap d c k K hB hSI hIp HP HT hp hne hf hd hc hk
    cases f with
    | zero => omega
    | succ f =>
      rcases (show m = 0 ∨ m = 1 ∨ m = 2 ∨ m = 3 by omega) with rfl | rfl | rfl | rfl
      · exact k_unit hG K hB hu9 hl hSI hIp HP HT hp hne (by omega) (fun ne' p' => ih f (by omega) 3 ne' p' (by omega)) (by omega) (by omega) (by omega)
      · exact k_repeated hG K hB hu9 hl hSI hIp HP HT hp hne (by omega) (fun ne' p' => ih f (by omega) 0 ne' p' (by omega)) (by omega) (by omega) (by omega)
      · exact k_layer6 hG K hB hu9 hl hSI hIp HP HT hp hne (by omega) (fun f' hf' ne' p' => ih f' hf' 1 ne' p' (by omega)) (by omega) (by omega) (by omega)
      · exact k_series6 hG K hB hu9 hl hSI hIp HP HT hp hne (by omega) (fun f' hf' ne' p' => ih f' hf' 2 ne' p' (by omega)) (by omega) (by omega) (by omega)
theorem endP_map (nd : Nd) (x : PR) : endP (mapP nd x) = endP x := by cases x <;> rfl
theorem endP_lay (x : PR) : endP (layP x) = endP x := by cases x <;> rfl
theorem endP_phr {c : List Nat} {k v p : Nat} (hp : p ≤ c.length) : endP (phrP c k v p) ≤ c.length := by
  have := (phrF_le (c := c) (b := true) hp).1
  unfold phrP
  split <;> exact this
theorem endP_enc {c : List Nat} {x : PR} (h : endP x ≤ c.length) : endP (encP c x) ≤ c.length := by
  cases x with
  | error e => exact h
  | ok r =>
    show endP (if hrV c r.2 = 41 then .ok ([serR r.1], r.2 + 1) else .error r.2) ≤ c.length
    split
    · rename_i q; exact hrV_in q (by decide)
    · exact h
theorem endP_opn {c : List Nat} {nst p : Nat} {x : PR} (hp : p ≤ c.length) (h : endP x ≤ c.length) : endP (opnP c nst p x) ≤ c.length := by
  unfold opnP
  split
  · exact endP_enc h
  · exact hp
theorem endP_app {n : Nat} {x y : PR} (h : endP x ≤ n) (h' : endP y ≤ n) : endP (appP x y) ≤ n := by
  cases x with
  | error e => exact h
  | ok r => cases y with
    | error e => exact h'
    | ok r' => exact h'
theorem prs_le (c : List Nat) : ∀ (f m nst p : Nat), m ≤ 3 → p ≤ c.length → endP (prs c f m nst p) ≤ c.length := by
  intro f
  induction f with
  | zero => intro m nst p _ _; exact Nat.zero_le _
  | succ f ih =>
    intro m nst p hm hp
    have i3 : ∀ nst p, p ≤ c.length → endP (prs c f 3 nst p) ≤ c.length := fun nst p hp => ih 3 nst p (by omega) hp
    have i0 : ∀ nst p, p ≤ c.length → endP (prs c f 0 nst p) ≤ c.length := fun nst p hp => ih 0 nst p (by omega) hp
    have i1 : ∀ nst p, p ≤ c.length → endP (prs c f 1 nst p) ≤ c.length := fun nst p hp => ih 1 nst p (by omega) hp
    have i2 : ∀ nst p, p ≤ c.length → endP (prs c f 2 nst p) ≤ c.length := fun nst p hp => ih 2 nst p (by omega) hp
    rcases (show m = 0 ∨ m = 1 ∨ m = 2 ∨ m = 3 by omega) with rfl | rfl | rfl | rfl
    · rw [prs_0]
      split
      · rename_i q; exact hrV_in q (by decide)
      · split
        · rename_i q
          have := hrV_in q (by decide)
          split
          · rename_i q2
            have := hrV_ge (c := c) (p := p + 1) (by omega)
            exact endP_phr (by omega)
          · show p + 1 ≤ _; omega
        · split
          · rename_i q
            have := hrV_ge (c := c) (p := p) (by omega)
            split
            · rw [endP_map]
              by_cases h40 : hrV c (p + 1) = 40
              · have := hrV_in h40 (by decide)
                exact endP_opn (by omega) (i3 _ _ (by omega))
              · unfold opnP; rw [if_neg (fun q => h40 q.1)]; show p + 1 ≤ _; omega
            · exact hp
          · split
            · rename_i q
              have := hrV_in q (by decide)
              exact endP_opn hp (i3 _ _ (by omega))
            · exact endP_phr hp
    · rw [prs_1]
      split
      · rename_i q
        have := isG_in q
        rw [endP_map]; exact i0 _ _ (by omega)
      · exact i0 _ _ hp
    · rw [prs_2]
      split
      · rename_i q
        have := hrV_in q (by decide)
        exact endP_app (i1 _ _ hp) (ih 2 _ _ (by omega) (by omega))
      · exact i1 _ _ hp
    · rw [prs_3]
      split
      · rename_i q
        have := hrV_in q (by decide)
        exact endP_app (by rw [endP_lay]; exact i2 _ _ hp) (ih 3 _ _ (by omega) (by omega))
      · rw [endP_lay]; exact i2 _ _ hp
def WhQ (g : GB) (I h : HM) (ps tb : Nat) (x : Except Nat (List Nd)) : RS → HM → Prop := match x with
  | .error e => synE g h ps tb 0 e
  | .ok l => fun v h' => ∃ (a n : Nat) (J : HM), v = .inl (some (.ref a)) ∧ Gw I h J h' ∧ NodeAt J n a (tidy l) ∧ Fr g h h' [ps]
set_option maxRecDepth 100000 in
set_option maxHeartbeats 4000000 in
theorem k_whole (hG : GKx g) (K0 : KC g h) (hB : gB g ≤ ps) (hu9 : ∀ u ∈ t, u < 128) (hl : t.length ≤ 100) (hSI : Sub I h) (hIp : I ps = none) (HP : ParC h ps tb 0 0) (HT : SBh g h tb tv cap t) (hd : 80 ≤ d) (hc : 2020 ≤ c) (hk : 100600 ≤ k) : Kc g mX6_whole d c k [.ref ps] h (WhQ g I h ps tb (parse t)) := by
  refine Kc.of (ls := [some (.ref ps), none]) (by decide +kernel) (Nat.le_of_ble_eq_true rfl) rfl ?_
  have L0 : PsS g I h ps tb tv cap 0 t I 0 h := ⟨HP, HT, Gw.refl hSI, Fr.refl _ _, hIp⟩
  have hle := prs_le t (4 * t.length + 4) 3 0 0 (by omega) (by omega)
  have hcal := parser_ok hG hu9 hl (4 * t.length + 4) 3 0 0 (by omega) I h ps tb tv cap (d - 1) 2019 100570 K0 hB hSI hIp HP HT (Nat.zero_le _) (by omega) (by omega) (by omega) (by omega) (by omega)
  unfold parse
  cases hX : prs t (4 * t.length + 4) 3 0 0 with
  | error e =>
    rw [hX] at hcal
    refine ev_aload_n dX6_whole_0 rfl ?_
    refine ev_callV dX6_whole_1 cv_X6_87_X6 ce_X6_series L0.1 rfl rfl rfl hcal (by omega) (by omega) (by omega) (Nat.le_of_ble_eq_true rfl) (fun v h3 q9 => ?_) (fun E q8 h3 r9 => ?_)
    · obtain ⟨q9, p9, e9, -⟩ := q9; cases e9
    · exact evx_out rfl r9
  | ok r =>
    rw [hX] at hcal
    have hgo := prs_go t _ 3 0 0 r (by omega) (by omega) hX
    dsimp only
    by_cases hr : r.2 = t.length
    · rw [if_pos hr]
      refine ev_aload_n dX6_whole_0 rfl ?_
      refine ev_callV dX6_whole_1 cv_X6_87_X6 ce_X6_series L0.1 rfl rfl rfl hcal (by omega) (by omega) (by omega) (Nat.le_of_ble_eq_true rfl) (fun v h3 q9 => ?_) (fun E q8 h3 r9 => by obtain ⟨a9, n9, J9, e9, -⟩ := r9; cases e9)
      obtain ⟨a, n, J, e9, GJ, NJ, PJ, FJ⟩ := q9
      cases e9
      have L3 : PsS g I h ps tb tv cap 0 t J r.2 h3 := L0.part GJ PJ FJ
      have lp3 := L3.1
      obtain ⟨TA9, lt3, -⟩ := id L3.2.1
      refine ev_astore_n dX6_whole_4 (by decide) rfl ?_
      dsimp only [List.set]
      refine ev_aload_n dX6_whole_5 rfl ?_
      refine ev_getf dX6_whole_6 gf_X6_15_X6 lp3 rfl ?_
      refine ev_aload_n dX6_whole_9 rfl ?_
      refine ev_getf dX6_whole_10 gf_X6_9_X6 lp3 rfl ?_
      refine ev_callVE dX6_whole_13 (cf_X6_19_J6 hG) ce_J6_length lt3 rfl rfl rfl (sb_length L3.2.1) (by omega) (Nat.le_of_ble_eq_true rfl) ?_
      refine ev_icmp_geZ (tgt := 26) dX6_whole_18 (by decide) (by omega) (by omega) (fun c18 => ?_) (fun c18 => by omega)
      refine ev_aload_n dX6_whole_26 rfl ?_
      refine ev_areturn dX6_whole_27 rfl (Or.inl ⟨_, rfl⟩) (Or.inr ⟨_, rfl⟩) ?_
      refine ⟨a, n, J, rfl, L3.2.2.1, NJ, L3.2.2.2.1⟩
    · rw [if_neg hr]
      refine ev_aload_n dX6_whole_0 rfl ?_
      refine ev_callV dX6_whole_1 cv_X6_87_X6 ce_X6_series L0.1 rfl rfl rfl hcal (by omega) (by omega) (by omega) (Nat.le_of_ble_eq_true rfl) (fun v h3 q9 => ?_) (fun E q8 h3 r9 => by obtain ⟨a9, n9, J9, e9, -⟩ := r9; cases e9)
      obtain ⟨a, n, J, e9, GJ, NJ, PJ, FJ⟩ := q9
      cases e9
      have L3 : PsS g I h ps tb tv cap 0 t J r.2 h3 := L0.part GJ PJ FJ
      have lp3 := L3.1
      obtain ⟨TA9, lt3, -⟩ := id L3.2.1
      refine ev_astore_n dX6_whole_4 (by decide) rfl ?_
      dsimp only [List.set]
      refine ev_aload_n dX6_whole_5 rfl ?_
      refine ev_getf dX6_whole_6 gf_X6_15_X6 lp3 rfl ?_
      refine ev_aload_n dX6_whole_9 rfl ?_
      refine ev_getf dX6_whole_10 gf_X6_9_X6 lp3 rfl ?_
      refine ev_callVE dX6_whole_13 (cf_X6_19_J6 hG) ce_J6_length lt3 rfl rfl rfl (sb_length L3.2.1) (by omega) (Nat.le_of_ble_eq_true rfl) ?_
      refine ev_icmp_geZ (tgt := 26) dX6_whole_18 (by decide) (by omega) (by omega) (fun c18 => by omega) (fun c18 => ?_)
      refine ev_aload_n dX6_whole_21 rfl ?_
      refine ev_callVR dX6_whole_22 cv_X6_42_X6 ce_X6_fault lp3 rfl rfl rfl (k_fault hG lp3) (by omega) (by omega) (by omega) (Nat.le_of_ble_eq_true rfl) (fun v9 h2 P9 => ?_)
      obtain ⟨q, rfl, zq9, hq9, fr9⟩ := P9
      exact ev_athrow (C := "") dX6_whole_25 hq9 rfl (evx_out rfl (L3.err ⟨q, rfl, zq9, hq9, fr9⟩))
end V8S

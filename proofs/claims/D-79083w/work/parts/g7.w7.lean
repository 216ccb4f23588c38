/-! THE COMPONENT: plan of a dance (printed by gen) -/
section W7S
variable {g : GB} {M : MI} {d c k : Nat} {h : HM}
variable {I h0 J : HM} {o pa pl a st fo fm : Nat} {D : Dn} {L : PL} {P : Pt}
set_option maxRecDepth 100000 in
set_option maxHeartbeats 4000000 in
theorem k_planX2 (hG : GKx g) (K0 : KC g h) (hSI : Sub I h) (H : DnC g I h a st fo D) (hco : 2 ≤ D.1.1 ∧ D.1.1 ≤ 9) (hro : 2 ≤ D.1.2 ∧ D.1.2 ≤ 9) {l : List Nd} (hp9 : D.2.2.2 = some l) (hP9 : P = mean l) (hO : dnOk D) (hE : endOk D P) (h99 : P.1.1 ≤ 99) (hn4 : ∀ e k, P.2.1 e k ≤ 4) (hfm : fm < 4) (hd : 14 ≤ d) (hc : 660 ≤ c) (hk : 35500 ≤ k) : Kc g mX2_plan d (c) (k) [.ref a, vz ((fm : Nat) : Int)] h (rR (fun v h' => ((plN D P fm 8 = none ∧ v = some .null) ∨ ∃ (L : PL) (ys : List (Nat × List Nat)) (J : HM) (n : Nat) (rs : List Nat) (pl v2 c1 : Nat) (mc : Int), plN D P fm 8 = some (L, ys) ∧ v = some (.ref pl) ∧ ALh g h' pl v2 c1 mc rs ∧ RowsAt J n rs (ys.map phR) ∧ Gw I h J h' ∧ J pl = none ∧ h pl = none ∧ (v2 < gB g ∨ (h v2 = none ∧ J v2 = none))) ∧ Fr g h h' [])) := by
  refine Kc.of (ls := [some (.ref a), some (vz ((fm : Nat) : Int))]) (by decide +kernel) (Nat.le_of_ble_eq_true rfl) rfl ?_
  obtain ⟨A0, B0, pv0, sv0, KD0, -⟩ := id H
  obtain ⟨A, B, pv, sv, KD, hA, hB9, hV⟩ := id H
  obtain ⟨k1, k2, k3, k4, k5, k6, k7, k8⟩ := id KD
  refine ev_newC (c' := c - 1) (k' := k - 3) [.null, .null, .null] dX2_plan_0 cf_X20 q2543 q2544 q172 rfl (by omega) (by omega) (fun qm1 hp_m2 em3 Bm4 Hqm1_m5 fm6 => ?_)
  have k1_m7 := (fm6 _ (ne_no k1 em3)).trans k1
  have k3_m8 := (fm6 _ (ne_no k3 em3)).trans k3
  have zm9 := ((Fr.refl (g := g) _ [])).fresh em3
  have Fm10 := ((Fr.refl (g := g) _ [])).alloc (Or.inl ⟨_, Hqm1_m5⟩) fm6 em3
  refine ev_dup dX2_plan_3 rfl ?_
  refine ev_aload_n dX2_plan_4 rfl ?_
  refine ev_callVR dX2_plan_5 ci_X2_93 ce_X20_init Hqm1_m5 rfl rfl rfl (k_initX20 (c := 2) (k := 11) (d := 5) hG (K0.fr Fm10) Hqm1_m5 Bm4 (Nat.le_refl _) (Nat.le_refl _) (Nat.le_refl _)) (by omega) (by omega) (by omega) (Nat.le_of_ble_eq_true rfl) (fun v9 h2 P9 => ?_)
  obtain ⟨rfl, pa, pl, KP, zpa, Bpa, zpl, HA, F2⟩ := P9
  have FX : Fr g h h2 [] := (Fm10).call F2 (fun x hx => Or.inr (Or.inl (by rw [List.mem_singleton.mp hx]; exact zm9)))
  have zpa0 := (Fm10).fresh zpa
  have zpl0 := (Fm10).fresh zpl
  have HD := H.fr FX (fun x hx => by cases hx)
  have hnd : pa ∉ dnS a st fo ∧ pl ∉ dnS a st fo := ⟨fun q => KD0.some q zpa0, fun q => KD0.some q zpl0⟩
  obtain ⟨A, B, pv, sv, KD, hA, hB9, hV⟩ := id HD
  obtain ⟨k1, k2, k3, k4, k5, k6, k7, k8⟩ := id KD
  refine ev_aload_n dX2_plan_8 rfl ?_
  refine ev_getf dX2_plan_9 gf_X2_17_X2 k1 rfl ?_
  refine ev_iload_n dX2_plan_12 rfl ?_
  refine ev_aaldY (v := .ref (fo + 1 + fm)) dX2_plan_13 k3 rfl rfl (by omega) (by rw [Int.toNat_natCast, if_pos hfm]; rfl) ?_
  refine ev_callVR dX2_plan_14 cv_X2_94_X20 ce_X20_plan KP.1 rfl rfl rfl (k_plan20 (c := 648) (k := 35400) (d := 12) hG (K0.fr FX) (hSI.fr0 FX) HD Bpa hco hro hp9 hP9 hO hE h99 hn4 (k4 fm hfm) (fun e he => hB9 fm e hfm he) hfm hnd KP HA (hSI.none zpa0) (hSI.none zpl0) (Nat.le_refl _) (Nat.le_refl _) (Nat.le_refl _)) (by omega) (by omega) (by omega) (Nat.le_of_ble_eq_true rfl) (fun v9 h3 P9 => ?_)
  obtain ⟨hr9, F3⟩ := P9
  have F13 : Fr g h h3 [] := FX.call F3 (fun x hx => Or.inr (Or.inl ((List.mem_cons.mp hx).elim (fun e => by rw [e]; exact zpa0) (fun e => by rw [List.mem_singleton.mp e]; exact zpl0))))
  rcases hr9 with ⟨hn9, rfl⟩ | ⟨L, ys, J, n, rs, v2, c1, mc, hn9, rfl, HA3, R, G3, hJ, hv⟩
  · refine ev_areturn dX2_plan_17 rfl (Or.inl ⟨_, rfl⟩) (Or.inl rfl) ?_
    exact ⟨_, rfl, Or.inl ⟨hn9, rfl⟩, F13⟩
  · refine ev_areturn dX2_plan_17 rfl (Or.inl ⟨_, rfl⟩) (Or.inr ⟨_, rfl⟩) ?_
    exact ⟨_, rfl, Or.inr ⟨L, ys, J, n, rs, pl, v2, c1, mc, hn9, rfl, HA3, R, ((Gw.refl hSI).fr0 FX).trans FX G3, hJ.2, zpl0, hv.imp id (fun e => ⟨FX.fresh e.1, e.2⟩)⟩, F13⟩
/-- without problems everybody ends on the stage, at a place of their own -/
theorem lkE_mem {k q e1 e0 : Nat} : ∀ (n m : Nat), m < n → isPr D P k q e1 (e0 + m) = true → lkE D P k q e1 e0 n ≠ [] := by
  intro n
  induction n with
  | zero => intro m h; omega
  | succ n ih =>
    intro m hm h
    show lkE D P k q e1 e0 n ++ _ ≠ []
    by_cases e : m = n
    · subst e; rw [if_pos h]; exact fun q => by simp at q
    · exact fun q => ih m (by omega) h (List.append_eq_nil_iff.mp q).1
theorem lkD_mem {k q : Nat} : ∀ (n d1 : Nat), d1 < n → lkE D P k q d1 (if isPair q then d1 + 1 else 0) (if isPair q then 7 - d1 else 1) ≠ [] → lkD D P k q n ≠ [] := by
  intro n
  induction n with
  | zero => intro d1 h; omega
  | succ n ih =>
    intro d1 hd h
    show lkD D P k q n ++ _ ≠ []
    by_cases e : d1 = n
    · subst e; exact fun q => h (List.append_eq_nil_iff.mp q).2
    · exact fun q => ih d1 (by omega) h (List.append_eq_nil_iff.mp q).1
theorem srQ_mem {k q : Nat} (h : lkD D P k (q + 1) 8 ≠ []) : ∀ n, q < n → srQ D P 0 k n ≠ [] := by
  intro n
  induction n with
  | zero => intro h; omega
  | succ n ih =>
    intro hn
    show srQ D P 0 k n ++ _ ≠ []
    by_cases e : q = n
    · subst e; rw [if_pos (Or.inl rfl)]; exact fun q => h (List.append_eq_nil_iff.mp q).2
    · exact fun q => ih (by omega) (List.append_eq_nil_iff.mp q).1
theorem srK_mem {k : Nat} (h : srQ D P 0 k 4 ≠ []) : ∀ n, k < n → srK D P 0 n ≠ [] := by
  intro n
  induction n with
  | zero => intro h; omega
  | succ n ih =>
    intro hn
    show srK D P 0 n ++ _ ≠ []
    by_cases e : k = n
    · subst e; exact fun q => h (List.append_eq_nil_iff.mp q).2
    · exact fun q => ih (by omega) (List.append_eq_nil_iff.mp q).1
theorem noPr_at (h : srK D P 0 (P.1.1 + 1) = []) {k : Nat} (hk : k ≤ P.1.1) : (∀ e, e < 8 → isPr D P k 1 e 0 = false) ∧ ∀ e e', e < e' → e' < 8 → isPr D P k 2 e e' = false := by
  constructor
  · intro e he
    cases q : isPr D P k 1 e 0 with
    | false => rfl
    | true =>
      exact absurd h (srK_mem (srQ_mem (q := 0) (lkD_mem 8 e he (by
        show lkE D P k 1 e 0 1 ≠ []
        exact lkE_mem 1 0 (by omega) q)) 4 (by omega)) _ (by omega))
  · intro e e' h1 h2
    cases q : isPr D P k 2 e e' with
    | false => rfl
    | true =>
      exact absurd h (srK_mem (srQ_mem (q := 1) (lkD_mem 8 e (by omega) (by
        show lkE D P k 2 e (e + 1) (7 - e) ≠ []
        exact lkE_mem (7 - e) (e' - (e + 1)) (by omega) (by rw [show e + 1 + (e' - (e + 1)) = e' by omega]; exact q))) 4 (by omega)) _ (by omega))
theorem noPr_end (h : srK D P 0 (P.1.1 + 1) = []) (hC : 2 ≤ D.1.1) : endOk D P := by
  obtain ⟨h1, h2⟩ := noPr_at h (Nat.le_refl _)
  have on : ∀ e : Nat, e < 8 → tkB D e = true → (0 ≤ posR D P e P.1.1 ∧ posR D P e P.1.1 ≤ (D.1.2 : Int) - 1) ∧ (0 ≤ posC D P e P.1.1 ∧ posC D P e P.1.1 ≤ (D.1.1 : Int) - 1) := fun e he ht => by
    have q := h1 e he
    unfold isPr at q
    rw [if_neg (by decide), if_pos rfl, ht, Bool.true_and] at q
    have q3 := Bool.and_eq_true_iff.mp (Bool.not_eq_eq_eq_not.mp q)
    exact ⟨of_decide_eq_true q3.2, of_decide_eq_true q3.1⟩
  refine ⟨on, ?_⟩
  have key : ∀ e e' : Nat, e < e' → e' < 8 → tkB D e = true → tkB D e' = true → dnE D P e ≠ dnE D P e' := fun e e' hlt he ht ht' q => by
    have q1 := h2 e e' hlt he
    obtain ⟨⟨a1, a2⟩, a3, a4⟩ := on e (by omega) ht
    obtain ⟨⟨b1, b2⟩, b3, b4⟩ := on e' he ht'
    unfold isPr at q1
    rw [if_neg (by decide), ht, ht', Bool.true_and, if_neg (by decide), Bool.true_and, if_pos rfl] at q1
    unfold same at q1
    have q2 := of_decide_eq_false q1
    unfold dnE at q
    have m1 : 0 ≤ (D.1.1 : Int) * posR D P e P.1.1 := Int.mul_nonneg (by omega) a1
    have m2 : 0 ≤ (D.1.1 : Int) * posR D P e' P.1.1 := Int.mul_nonneg (by omega) b1
    have e1 : (D.1.1 : Int) * posR D P e P.1.1 + posC D P e P.1.1 = (D.1.1 : Int) * posR D P e' P.1.1 + posC D P e' P.1.1 := by omega
    have hr : posR D P e P.1.1 = posR D P e' P.1.1 := by
      have d1 : ((D.1.1 : Int) * posR D P e P.1.1 + posC D P e P.1.1) / (D.1.1 : Int) = posR D P e P.1.1 := by
        rw [Int.add_comm, Int.add_mul_ediv_left _ _ (by omega), Int.ediv_eq_zero_of_lt a3 (by omega), Int.zero_add]
      have d2 : ((D.1.1 : Int) * posR D P e' P.1.1 + posC D P e' P.1.1) / (D.1.1 : Int) = posR D P e' P.1.1 := by
        rw [Int.add_comm, Int.add_mul_ediv_left _ _ (by omega), Int.ediv_eq_zero_of_lt b3 (by omega), Int.zero_add]
      rw [← d1, ← d2, e1]
    rw [hr] at e1
    exact q2 ⟨by omega, hr⟩
  intro e e' h1 h2 ht ht' hne q
  rcases Nat.lt_or_gt_of_ne hne with x | x
  · exact key e e' x h2 ht ht' q
  · exact key e' e x h1 ht' ht q.symm
end W7S

/-! THE COMPONENT: the planner, plan (printed by gen) -/
section W6S
variable {g : GB} {M : MI} {d c k : Nat} {h : HM}
variable {I h0 J : HM} {o pa pl a st fo fm : Nat} {D : Dn} {L : PL} {P : Pt}
/-- at first: those who aren't in the formation stand where they end -/
def plL0 (D : Dn) (P : Pt) (fm i : Nat) : PL := fun e => if e < i ∧ tkB D e = true ∧ D.2.2.1 fm e = -1 then some (fun _ => dnE D P e) else none
/-- one dancer more -/
def plS (D : Dn) (P : Pt) (fm n : Nat) (x : PL × List (Nat × List Nat)) : Option (PL × List (Nat × List Nat)) := if tkB D n = true ∧ D.2.2.1 fm n ≠ -1 then (match enP D.1.1 D.1.2 x.1 (dnE D P n) (D.2.2.1 fm n).toNat with
  | none => none
  | some last => some ((fun e => if e = n then some (wkP D.1.1 D.1.2 x.1 (dnE D P n) (D.2.2.1 fm n).toNat last) else x.1 e), x.2 ++ (if last = 0 then [] else [(n, ssP D.1.1 D.1.2 x.1 (dnE D P n) (D.2.2.1 fm n).toNat last)])))
  else some x
/-- the plan's paths and phrases for the dancers below n; nothing if one finds no path -/
def plN (D : Dn) (P : Pt) (fm : Nat) : Nat → Option (PL × List (Nat × List Nat))
  | 0 => some (plL0 D P fm 8, [])
  | n + 1 => (plN D P fm n).bind (plS D P fm n)
theorem plN_s {n : Nat} {x : PL × List (Nat × List Nat)} (h : plN D P fm n = some x) : plN D P fm (n + 1) = plS D P fm n x := by
  show (plN D P fm n).bind (plS D P fm n) = _
  rw [h]; rfl
theorem plS_no {n : Nat} {x : PL × List (Nat × List Nat)} (h : ¬ (tkB D n = true ∧ D.2.2.1 fm n ≠ -1)) : plS D P fm n x = some x := if_neg h
theorem plS_none {n : Nat} {x : PL × List (Nat × List Nat)} (h : tkB D n = true ∧ D.2.2.1 fm n ≠ -1) (he : enP D.1.1 D.1.2 x.1 (dnE D P n) (D.2.2.1 fm n).toNat = none) : plS D P fm n x = none := by
  unfold plS; rw [if_pos h, he]
theorem plS_some {n last : Nat} {x : PL × List (Nat × List Nat)} (h : tkB D n = true ∧ D.2.2.1 fm n ≠ -1) (he : enP D.1.1 D.1.2 x.1 (dnE D P n) (D.2.2.1 fm n).toNat = some last) : plS D P fm n x = some ((fun e => if e = n then some (wkP D.1.1 D.1.2 x.1 (dnE D P n) (D.2.2.1 fm n).toNat last) else x.1 e), x.2 ++ (if last = 0 then [] else [(n, ssP D.1.1 D.1.2 x.1 (dnE D P n) (D.2.2.1 fm n).toNat last)])) := by
  unfold plS; rw [if_pos h, he]
theorem plN_none {n : Nat} (h : plN D P fm n = none) : ∀ m, n ≤ m → plN D P fm m = none := by
  intro m
  induction m with
  | zero => intro hm; rw [Nat.le_zero.mp hm] at h; exact h
  | succ m ih =>
    intro hm
    by_cases e : n = m + 1
    · rw [← e]; exact h
    · show (plN D P fm m).bind (plS D P fm m) = none
      rw [ih (by omega)]; rfl
/-- everybody who takes part stands on the stage at the end, no two at one place -/
def endOk (D : Dn) (P : Pt) : Prop := (∀ e : Nat, e < 8 → tkB D e = true → (0 ≤ posR D P e P.1.1 ∧ posR D P e P.1.1 ≤ (D.1.2 : Int) - 1) ∧ (0 ≤ posC D P e P.1.1 ∧ posC D P e P.1.1 ≤ (D.1.1 : Int) - 1)) ∧ ∀ e e' : Nat, e < 8 → e' < 8 → tkB D e = true → tkB D e' = true → e ≠ e' → dnE D P e ≠ dnE D P e'
theorem dnE_lt (h : endOk D P) {e : Nat} (he : e < 8) (ht : tkB D e = true) : dnE D P e < D.1.1 * D.1.2 := by
  obtain ⟨⟨a1, a2⟩, a3, a4⟩ := h.1 e he ht
  unfold dnE
  have h1 : (D.1.1 : Int) * posR D P e P.1.1 ≤ (D.1.1 : Int) * ((D.1.2 : Int) - 1) := Int.mul_le_mul_of_nonneg_left a2 (by omega)
  have h2 : (D.1.1 : Int) * ((D.1.2 : Int) - 1) = (D.1.1 : Int) * (D.1.2 : Int) - D.1.1 := by rw [Int.mul_sub, Int.mul_one]
  have h3 : 0 ≤ (D.1.1 : Int) * posR D P e P.1.1 := Int.mul_nonneg (by omega) a1
  have h4 : ((D.1.1 * D.1.2 : Nat) : Int) = (D.1.1 : Int) * (D.1.2 : Int) := Int.natCast_mul _ _
  omega
/-- what paths have in common -/
def plOkL (D : Dn) (P : Pt) (fm n : Nat) (L : PL) (ys : List (Nat × List Nat)) : Prop := (∀ (e : Nat) (f : Nat → Nat), e < 8 → L e = some f → f 0 = dnE D P e ∧ tkB D e = true ∧ (e < n ∨ D.2.2.1 fm e = -1) ∧ ∀ k, k ≤ 20 → f k < D.1.1 * D.1.2) ∧ ys.length ≤ n ∧ ∀ y ∈ ys, y.1 < 8 ∧ 1 ≤ y.2.length ∧ y.2.length ≤ 20 ∧ ∀ s ∈ y.2, s ≤ 4
theorem plOkL.fr {n : Nat} {ys : List (Nat × List Nat)} (h : plOkL D P fm n L ys) (hE : endOk D P) (hn : n < 8) (ht : tkB D n = true) (hg : D.2.2.1 fm n ≠ -1) : frP L 0 (dnE D P n) = true := by
  rw [frP_iff]
  intro e f he hf q
  obtain ⟨a, b, c, -⟩ := h.1 e f he hf
  rw [a] at q
  by_cases x : e = n
  · subst x; rcases c with c | c
    · omega
    · exact hg c
  · exact hE.2 e n he hn b ht x q
theorem ssP_4 {C R st gl last : Nat} {L : PL} : ∀ s ∈ ssP C R L st gl last, s ≤ 4 := by
  intro s hs
  unfold ssP at hs
  obtain ⟨k, -, e⟩ := List.mem_map.mp hs
  rw [← e]
  exact stO_4
theorem plN_ok (hE : endOk D P) (hC : 0 < D.1.1) : ∀ (n : Nat) (L : PL) (ys : List (Nat × List Nat)), n ≤ 8 → plN D P fm n = some (L, ys) → plOkL D P fm n L ys := by
  intro n
  induction n with
  | zero =>
    intro L ys _ h
    cases h
    refine ⟨fun e f he hf => ?_, Nat.le_refl _, fun y hy => by cases hy⟩
    unfold plL0 at hf
    split at hf
    · rename_i q
      cases hf
      exact ⟨rfl, q.2.1, Or.inr q.2.2, fun k _ => dnE_lt hE he q.2.1⟩
    · cases hf
  | succ n ih =>
    intro L ys hn h
    cases hq : plN D P fm n with
    | none => rw [plN_none hq (n + 1) (by omega)] at h; cases h
    | some x =>
      obtain ⟨L1, ys1⟩ := x
      rw [plN_s hq] at h
      obtain ⟨i1, i2, i3⟩ := ih L1 ys1 (by omega) hq
      by_cases c : tkB D n = true ∧ D.2.2.1 fm n ≠ -1
      · cases he : enP D.1.1 D.1.2 L1 (dnE D P n) (D.2.2.1 fm n).toNat with
        | none => rw [plS_none c he] at h; cases h
        | some last =>
          rw [plS_some c he] at h
          obtain ⟨hl, hf, -⟩ := find_some he
          obtain ⟨hr, -⟩ := Bool.and_eq_true_iff.mp hf
          have hld := ld_back (C := D.1.1) (R := D.1.2) (L := L1) (st := dnE D P n) (gl := (D.2.2.1 fm n).toNat) (last := last) last _ (Nat.le_refl _) hr (by rw [Nat.sub_self]; exact decide_eq_true rfl)
          have hst := dnE_lt hE (show n < 8 by omega) c.1
          injection h with h
          injection h with h1 h2
          subst h1
          subst h2
          refine ⟨fun e f hee hff => ?_, ?_, fun y hy => ?_⟩
          · dsimp only at hff
            by_cases x : e = n
            · rw [if_pos x] at hff
              cases hff
              subst x
              refine ⟨rfl, c.1, Or.inl (by omega), fun k hk => ?_⟩
              by_cases y : k ≤ last
              · exact (wk_ok hC hst hld k y).2.1
              · rw [wk_stay k (by omega)]; exact (wk_ok hC hst hld last (Nat.le_refl _)).2.1
            · rw [if_neg x] at hff
              obtain ⟨a1, a2, a3, a4⟩ := i1 e f hee hff
              exact ⟨a1, a2, a3.imp (fun q => by omega) id, a4⟩
          · rw [List.length_append]
            split
            · simp; omega
            · simp; omega
          · rcases List.mem_append.mp hy with q | q
            · exact i3 y q
            · by_cases z : last = 0
              · rw [if_pos z] at q; cases q
              · rw [if_neg z] at q
                rw [List.mem_singleton.mp q]
                exact ⟨by omega, by show 1 ≤ (ssP _ _ _ _ _ _).length; rw [ssP_len]; omega, by show (ssP _ _ _ _ _ _).length ≤ 20; rw [ssP_len]; omega, ssP_4⟩
      · rw [plS_no c] at h
        cases h
        exact ⟨fun e f hee hff => by
          obtain ⟨a1, a2, a3, a4⟩ := i1 e f hee hff
          exact ⟨a1, a2, a3.imp (fun q => by omega) id, a4⟩, by omega, i3⟩
theorem Gw.ex {J h1 : HM} (G : Gw I h0 J h1) (hI : Sub I h0) {q : Nat} {e : MO} (hq : h1 q = some e) (hn : h0 q = none) (he : capOk (some e) := by intro _ _ q; cases q) : ∃ J' : HM, Gw I h0 J' h1 ∧ Sub J J' ∧ J' q = some e ∧ ∀ x, x ≠ q → J' x = J x :=
  ⟨hs J q e, G.add hI hq hn he, G.subadd hq, hs_same _ _ _, fun x hx => hs_ne hx⟩
def phR (y : Nat × List Nat) : List Nd := [(0, 0, 0, [y.1], y.2)]
theorem NodeAt.leaf0 {J : HM} {r da st sv n : Nat} {ss : List Nat} {A : Nat → Int} (h1 : J r = some (.inr (9, [vz 0, .ref da, .ref st]))) (h2 : J da = some (.inl (0, (1, .inl (fun j => zI (A j)))))) (hA : A 0 = ((n : Nat) : Int)) (h3 : STh J st sv (ss.map sgN)) : NodeAt J 1 r (tidy (phR (n, ss))) := by
  have e : tidy (phR (n, ss)) = (0, 0, 0, [n], ss) :: ([] : List (List Nd)).flatten := tidy_t rfl
  rw [e]
  refine ⟨(0, 0, 0, [n], ss), [], [], rfl, rfl, ⟨fun _ => rfl, fun _ => Nat.zero_le _⟩, rfl, ⟨fun _ => ⟨da, st, sv, A, rfl, h1, h2, fun j x hj => ?_, h3, fun q => absurd q (show ¬ 0 = 1 by decide), (show ([n] : List Nat).length < 1000000 by simp)⟩, fun q => absurd q (show ¬ 0 = 2 by decide), fun q => absurd q (show ¬ 0 = 3 by decide), fun q => absurd q (show ¬ 0 = 4 by decide), fun q => absurd q (show ¬ 0 = 5 by decide), fun q => absurd q (show ¬ 6 ≤ 0 by decide)⟩, fun i q c h1 h2 => by simp at h1⟩
  cases j with
  | zero => cases hj; exact hA
  | succ j => simp at hj
theorem PnC.congr {h : HM} {L' : PL} (K : PnC h o pa pl a L) (hL : ∀ e, e < 8 → L' e = L e) : PnC h o pa pl a L' := by
  obtain ⟨k1, pf, k2, k3⟩ := K
  exact ⟨k1, pf, k2, fun e he => by rw [hL e he]; exact k3 e he⟩
set_option maxRecDepth 100000 in
set_option maxHeartbeats 4000000 in
theorem k_initX20 (hG : GKx g) (K0 : KC g h) (ho : h o = some (.inr (16, [.null, .null, .null]))) (hB : gB g ≤ o) (hd : 5 ≤ d) (hc : 2 ≤ c) (hk : 11 ≤ k) : Kc g mX20_init d (c) (k) [.ref o, .ref a] h (rR (fun v h' => v = none ∧ ∃ pa pl : Nat, PnC h' o pa pl a (fun _ => none) ∧ h pa = none ∧ gB g ≤ pa ∧ h pl = none ∧ ALh g h' pl (g.2.2.2.2 48) 0 0 [] ∧ Fr g h h' [o])) := by
  refine Kc.of (ls := [some (.ref o), some (.ref a)]) (by decide +kernel) (Nat.le_of_ble_eq_true rfl) rfl ?_
  refine ev_aload_n dX20_init_0 rfl ?_
  refine ev_aload_n dX20_init_1 rfl ?_
  refine ev_putC [.null, .null, .ref a] dX20_init_2 gf_X20_3_X20 ho hB (Or.inr ⟨rfl, rfl⟩) rfl rfl (Nat.le_of_ble_eq_true rfl) rfl (fun hp_1 ho_2 f3 => ?_)
  have F4 := ((Fr.refl (g := g) _ [o])).write (Or.inl ⟨_, ho_2⟩) f3 hB (by simp)
  refine ev_aload_n dX20_init_5 rfl ?_
  refine ev_objInit dX20_init_6 q2548 q183 q184 (by omega) rfl ?_
  refine ev_aload_n dX20_init_9 rfl ?_
  refine ev_bipushZ dX20_init_10 rfl ?_
  refine ev_anewIY (N := 8) (c' := c - 1) (k' := k - 8) hG dX20_init_12 q2549 (by omega) (by omega) (by omega) (by omega) (by omega) (fun q5 hp_5 e5 B5 Hq5_a fr5 => ?_)
  have ho_6 := (fr5 _ (ne_no ho_2 e5)).trans ho_2
  have z7 := (F4).fresh e5
  have F8 := (F4).alloc (Or.inr ⟨_, Hq5_a, Nat.le_of_ble_eq_true rfl⟩) fr5 e5
  refine ev_putC [.ref q5, .null, .ref a] dX20_init_15 gf_X20_17_X20 ho_6 hB (Or.inr ⟨rfl, rfl⟩) rfl rfl (Nat.le_of_ble_eq_true rfl) rfl (fun hp_9 ho_10 f11 => ?_)
  have Hq5_12 := (f11 _ ((ne_no ho_2 e5)).symm).trans Hq5_a
  have F13 := (F8).write (Or.inl ⟨_, ho_10⟩) f11 hB (by simp)
  refine ev_aload_n dX20_init_18 rfl ?_
  refine ev_newC (c' := c - 2) (k' := k - 11) [vz 0, .null, vz 0] dX20_init_19 cf_J26 q2550 q376 q152 rfl (by omega) (by omega) (fun q14 hp_15 e16 B17 Hq14_18 f19 => ?_)
  have ho_20 := (f19 _ (ne_no ho_10 e16)).trans ho_10
  have Hq5_21 := (f19 _ (ne_no Hq5_12 e16)).trans Hq5_12
  have z22 := (F13).fresh e16
  have F23 := (F13).alloc (Or.inl ⟨_, Hq14_18⟩) f19 e16
  refine ev_dup dX20_init_22 rfl ?_
  refine ev_callVR dX20_init_23 ci_X20_23 ce_J26_init Hq14_18 rfl rfl rfl (al_init hG Hq14_18 B17) (by omega) (by omega) (by omega) (Nat.le_of_ble_eq_true rfl) (fun v24 hp_24 P24 => ?_)
  obtain ⟨rfl, hn24, fr24⟩ := P24
  have ho_25 := fr24.keep ho_20 (by simp only [List.mem_cons, List.not_mem_nil, or_false, not_or]; exact (ne_no ho_10 e16))
  have Hq5_26 := fr24.keep Hq5_21 (by simp only [List.mem_cons, List.not_mem_nil, or_false, not_or]; exact (ne_no Hq5_12 e16))
  have F27 := (F23).call fr24 (fun x hx => Or.inr (Or.inl (by rw [List.mem_singleton.mp hx]; exact z22)))
  refine ev_putC [.ref q5, .ref q14, .ref a] dX20_init_26 gf_X20_24_X20 ho_25 hB (Or.inr ⟨rfl, rfl⟩) rfl rfl (Nat.le_of_ble_eq_true rfl) rfl (fun hp_28 ho_29 f30 => ?_)
  have Hq5_31 := (f30 _ ((ne_no ho_2 e5)).symm).trans Hq5_26
  have hn24_32 := (f30 _ ((ne_no ho_10 e16)).symm).trans hn24
  have F33 := (F27).write (Or.inl ⟨_, ho_29⟩) f30 hB (by simp)
  refine ev_return dX20_init_29 rfl ?_
  exact ⟨_, rfl, rfl, q5, q14, ⟨ho_29, _, Hq5_31, fun e he => rfl⟩, z7, B5, z22, al_new (K0.fr F33).1.1 hn24_32 B17, F33⟩
theorem st_in {D : Dn} (hO : dnOk D) {e : Nat} (he : e < 8) : inR (D.2.1 e) := by have := st_lt hO he; omega
theorem plL0_no {i e : Nat} (h : ¬ (tkB D i = true ∧ D.2.2.1 fm i = -1)) : plL0 D P fm (i + 1) e = plL0 D P fm i e := by
  unfold plL0
  by_cases c : tkB D e = true ∧ D.2.2.1 fm e = -1
  · have : e ≠ i := fun q => h (by rw [← q]; exact c)
    by_cases x : e < i
    · rw [if_pos ⟨by omega, c⟩, if_pos ⟨x, c⟩]
    · rw [if_neg (fun q => absurd q.1 (by omega)), if_neg (fun q => x q.1)]
  · rw [if_neg (fun q => c q.2), if_neg (fun q => c q.2)]
theorem plL0_yes {i e : Nat} (h : tkB D i = true ∧ D.2.2.1 fm i = -1) : plL0 D P fm (i + 1) e = if e = i then some (fun _ => dnE D P i) else plL0 D P fm i e := by
  unfold plL0
  by_cases x : e = i
  · rw [if_pos x, x, if_pos ⟨by omega, h⟩]
  · rw [if_neg x]
    by_cases c : e < i ∧ tkB D e = true ∧ D.2.2.1 fm e = -1
    · rw [if_pos ⟨by omega, c.2⟩, if_pos c]
    · rw [if_neg (fun q => c ⟨by omega, q.2⟩), if_neg c]
set_option maxRecDepth 100000 in
set_option maxHeartbeats 4000000 in
theorem k_plan20 (hG : GKx g) (K0 : KC g h0) (hSI : Sub I h0) (H : DnC g I h0 a st fo D) (hpa : gB g ≤ pa) (hco : 2 ≤ D.1.1 ∧ D.1.1 ≤ 9) (hro : 2 ≤ D.1.2 ∧ D.1.2 ≤ 9) {l : List Nd} (hp9 : D.2.2.2 = some l) (hP9 : P = mean l) (hO : dnOk D) (hE : endOk D P) (h99 : P.1.1 ≤ 99) (hn4 : ∀ e k, P.2.1 e k ≤ 4) {gq : Nat} {G : Nat → Int} (hgq : h0 gq = some (.inl (0, (8, .inl (fun j => zI (G j)))))) (hGf : ∀ e : Nat, e < 8 → G e = D.2.2.1 fm e) (hfm : fm < 4) (hnd : pa ∉ dnS a st fo ∧ pl ∉ dnS a st fo) (KP0 : PnC h0 o pa pl a (fun _ => none)) (HA0 : ALh g h0 pl (g.2.2.2.2 48) 0 0 []) (hIpa : I pa = none) (hIpl : I pl = none) (hd : 12 ≤ d) (hc : 648 ≤ c) (hk : 35400 ≤ k) : Kc g mX20_plan d (c) (k) [.ref o, .ref gq] h0 (rR (fun v h' => ((plN D P fm 8 = none ∧ v = some .null) ∨ ∃ (L : PL) (ys : List (Nat × List Nat)) (J : HM) (n : Nat) (rs : List Nat) (v2 c1 : Nat) (mc : Int), plN D P fm 8 = some (L, ys) ∧ v = some (.ref pl) ∧ ALh g h' pl v2 c1 mc rs ∧ RowsAt J n rs (ys.map phR) ∧ Gw I h0 J h' ∧ (J pa = none ∧ J pl = none) ∧ (v2 < gB g ∨ (h0 v2 = none ∧ J v2 = none))) ∧ Fr g h0 h' [pa, pl])) := by
  refine Kc.of (ls := [some (.ref o), some (.ref gq), none, none, none]) (by decide +kernel) (Nat.le_of_ble_eq_true rfl) rfl ?_
  obtain ⟨K1, pf, K2, K3⟩ := id KP0
  have hgqp : h0 pa ≠ some (.inl (0, (8, .inl (fun j => zI (G j))))) := fun q => by rw [K2] at q; simp at q
  have hgp2 : gq ∉ [pa, pl] := fun q => (List.mem_cons.mp q).elim (fun e => by rw [e] at hgq; exact hgqp hgq) (fun e => by rw [List.mem_singleton.mp e, HA0.1] at hgq; simp at hgq)
  have hplp : pl ≠ pa := ne_of HA0.1 K2 (by simp)
  have hpan : h0 pa ≠ none := by rw [K2]; exact fun q => by cases q
  have hpln : h0 pl ≠ none := by rw [HA0.1]; exact fun q => by cases q
  clear K1 K2 K3 pf
  refine ev_iconstZ dX20_plan_0 ?_
  refine ev_istore_n dX20_plan_1 (by decide) rfl ?_
  dsimp only [List.set]
  refine ev_forB (st := []) 8 (fun i => (8 - i) + 640) (fun i => 21 * (8 - i) + 35200) (fun i h1 => PnC h1 o pa pl a (plL0 D P fm i) ∧ Fr g h0 h1 [pa]) (fun i => [some (.ref o), some (.ref gq), some (vz ((i : Nat) : Int)), none, none]) 0 (Nat.zero_le _) ⟨KP0.congr (fun e he => by unfold plL0; rw [if_neg (fun q => absurd q.1 (by omega))]), Fr.refl _ _⟩ (by omega) (by omega) (by repeat' first | exact rfl | exact trivial | exact vz_eq (by omega) | refine And.intro ?_ ?_) (fun i h1 _ hi hP1 hN => ?_) (fun h1 hP1 => ?_)
  · obtain ⟨KP, F1⟩ := hP1
    have HD := H.fr F1 (fun x hx => by rw [List.mem_singleton.mp hx]; exact hnd.1)
    obtain ⟨K1, pf, K2, K3⟩ := id KP
    have hgp : gq ∉ [pa] := fun q => by
      rw [List.mem_singleton.mp q] at hgq; exact hgqp hgq
    have hgq1 := F1.keep hgq hgp
    have hgl := fo_lt hO hfm hi
    have hSI1 := hSI.fr F1 (fun x hx => Or.inl (by rw [List.mem_singleton.mp hx]; exact hIpa))
    obtain ⟨A, B, pv, sv, KD, hA, hB9, hV⟩ := id HD
    obtain ⟨k1, k2, k3, k4, k5, k6, k7, k8⟩ := id KD
    have htst : tkB D i = true → 0 ≤ D.2.1 i ∧ D.2.1 i < 100 := fun q => by
      have := st_lt hO hi; unfold tkB at q; have := of_decide_eq_true q; omega
    cases htk : tkB D i with
    | false =>
      refine ev_iload_n dX20_plan_2 rfl ?_
      refine ev_bipushZ dX20_plan_3 rfl ?_
      refine ev_icmp_geZ (tgt := 44) dX20_plan_5 (by decide) (by omega) (by omega) (fun c5 => by omega) (fun c5 => ?_)
      refine ev_aload_n dX20_plan_8 rfl ?_
      refine ev_getf dX20_plan_9 gf_X20_3_X20 K1 rfl ?_
      refine ev_iload_n dX20_plan_12 rfl ?_
      refine ev_callVE dX20_plan_13 cv_X20_116_X2 ce_X2_takesPart k1 rfl rfl rfl (k_takesX2 (d := 0) HD hi (st_in hO hi)) (by omega) (Nat.le_of_ble_eq_true rfl) ?_
      refine ev_if_eqB (tgt := 38) dX20_plan_16 (by decide) (fun c16 => ?_) (fun c16 => by rw [htk] at c16; cases c16)
      refine ev_iincZ dX20_plan_38 rfl (by decide) rfl ?_
      dsimp only [List.set]
      refine ev_goto (tgt := 2) dX20_plan_41 (by decide) ?_
      exact hN _ _ _ _ (by omega) (by omega) (by repeat' first | exact rfl | exact trivial | exact vz_eq (by omega) | refine And.intro ?_ ?_) ⟨KP.congr (fun e he => plL0_no (by rw [htk]; exact fun q => by cases q.1)), F1⟩
    | true =>
      have htst := htst htk
      by_cases hgi : D.2.2.1 fm i = -1
      · refine ev_iload_n dX20_plan_2 rfl ?_
        refine ev_bipushZ dX20_plan_3 rfl ?_
        refine ev_icmp_geZ (tgt := 44) dX20_plan_5 (by decide) (by omega) (by omega) (fun c5 => by omega) (fun c5 => ?_)
        refine ev_aload_n dX20_plan_8 rfl ?_
        refine ev_getf dX20_plan_9 gf_X20_3_X20 K1 rfl ?_
        refine ev_iload_n dX20_plan_12 rfl ?_
        refine ev_callVE dX20_plan_13 cv_X20_116_X2 ce_X2_takesPart k1 rfl rfl rfl (k_takesX2 (d := 0) HD hi (st_in hO hi)) (by omega) (Nat.le_of_ble_eq_true rfl) ?_
        refine ev_if_eqB (tgt := 38) dX20_plan_16 (by decide) (fun c16 => by rw [htk] at c16; cases c16) (fun c16 => ?_)
        refine ev_aload_n dX20_plan_19 rfl ?_
        refine ev_iload_n dX20_plan_20 rfl ?_
        refine ev_ialdY dX20_plan_21 hgq1 (by omega) ?_
        rw [Int.toNat_natCast, hGf i hi]
        refine ev_iconstZ dX20_plan_22 ?_
        refine ev_icmp_neZ (tgt := 38) dX20_plan_23 (by decide) (by omega) (by omega) (fun c23 => by omega) (fun c23 => ?_)
        refine ev_aload_n dX20_plan_26 rfl ?_
        refine ev_iload_n dX20_plan_27 rfl ?_
        refine ev_aload_n dX20_plan_28 rfl ?_
        refine ev_iload_n dX20_plan_29 rfl ?_
        refine ev_callVE dX20_plan_30 cv_X20_120_X20 ce_X20_end K1 rfl rfl rfl (k_end20 K1 HD hSI1 hp9 hP9 (e := i) hi htst hco h99 hn4 ⟨(hE.1 i hi htk).1.1, (hE.1 i hi htk).2.1⟩) (by omega) (Nat.le_of_ble_eq_true rfl) ?_
        refine ev_ldcS (i := 18) hG dX20_plan_33 rfl ?_
        have hS18 : STh h1 (g.2.2.2.2 18) (g.2.2.2.2 42) (strB "") := ((K0.fr F1).2.2.1 18 _ rfl).1
        have hdl := dnE_lt hE hi htk
        have hNN : D.1.1 * D.1.2 ≤ 9 * 9 := Nat.mul_le_mul hco.2 hro.2
        refine ev_callVR dX20_plan_35 cv_X20_126_X20 ce_X20_keep K1 rfl rfl rfl (k_keep20 (c := 1) (k := 21) (d := 6) (W := fun _ => dnE D P i) hG KP HD hpa hco hro hi hS18 (fun k _ => by omega) (Nat.zero_le _) (fun j hj => absurd hj (by rw [show (strB "").length = 0 by decide]; omega)) (fun j _ _ => rfl) (Nat.le_refl _) (Nat.le_refl _) (Nat.le_refl _)) (by omega) (by omega) (by omega) (Nat.le_of_ble_eq_true rfl) (fun v9 h2 P9 => ?_)
        obtain ⟨rfl, KP2, F2⟩ := P9
        refine ev_iincZ dX20_plan_38 rfl (by decide) rfl ?_
        dsimp only [List.set]
        refine ev_goto (tgt := 2) dX20_plan_41 (by decide) ?_
        exact hN _ _ _ _ (by omega) (by omega) (by repeat' first | exact rfl | exact trivial | exact vz_eq (by omega) | refine And.intro ?_ ?_) ⟨KP2.congr (fun e he => plL0_yes ⟨htk, hgi⟩), F1.call F2 (fun x hx => Or.inl hx)⟩
      · refine ev_iload_n dX20_plan_2 rfl ?_
        refine ev_bipushZ dX20_plan_3 rfl ?_
        refine ev_icmp_geZ (tgt := 44) dX20_plan_5 (by decide) (by omega) (by omega) (fun c5 => by omega) (fun c5 => ?_)
        refine ev_aload_n dX20_plan_8 rfl ?_
        refine ev_getf dX20_plan_9 gf_X20_3_X20 K1 rfl ?_
        refine ev_iload_n dX20_plan_12 rfl ?_
        refine ev_callVE dX20_plan_13 cv_X20_116_X2 ce_X2_takesPart k1 rfl rfl rfl (k_takesX2 (d := 0) HD hi (st_in hO hi)) (by omega) (Nat.le_of_ble_eq_true rfl) ?_
        refine ev_if_eqB (tgt := 38) dX20_plan_16 (by decide) (fun c16 => by rw [htk] at c16; cases c16) (fun c16 => ?_)
        refine ev_aload_n dX20_plan_19 rfl ?_
        refine ev_iload_n dX20_plan_20 rfl ?_
        refine ev_ialdY dX20_plan_21 hgq1 (by omega) ?_
        rw [Int.toNat_natCast, hGf i hi]
        refine ev_iconstZ dX20_plan_22 ?_
        refine ev_icmp_neZ (tgt := 38) dX20_plan_23 (by decide) (by omega) (by omega) (fun c23 => ?_) (fun c23 => by omega)
        refine ev_iincZ dX20_plan_38 rfl (by decide) rfl ?_
        dsimp only [List.set]
        refine ev_goto (tgt := 2) dX20_plan_41 (by decide) ?_
        exact hN _ _ _ _ (by omega) (by omega) (by repeat' first | exact rfl | exact trivial | exact vz_eq (by omega) | refine And.intro ?_ ?_) ⟨KP.congr (fun e he => plL0_no (fun q => hgi q.2)), F1⟩
  · obtain ⟨KP1, F1⟩ := hP1
    have HA1 := HA0.fr F1 (fun q => hplp (List.mem_singleton.mp q)) (fun hg q => by have := K0.1.2; omega)
    refine ev_iload_n dX20_plan_2 rfl ?_
    refine ev_bipushZ dX20_plan_3 rfl ?_
    refine ev_icmp_geZ (tgt := 44) dX20_plan_5 (by decide) (by omega) (by omega) (fun c5 => ?_) (fun c5 => by omega)
    refine ev_iconstZ dX20_plan_44 ?_
    refine ev_istore_n dX20_plan_45 (by decide) rfl ?_
    dsimp only [List.set]
    refine ev_forB (st := []) 8 (fun i => 80 * (8 - i)) (fun i => 4400 * (8 - i)) (fun i h1 => ∃ (L : PL) (ys : List (Nat × List Nat)) (J : HM) (n : Nat) (rs : List Nat) (v c1 : Nat) (mc : Int), plN D P fm i = some (L, ys) ∧ PnC h1 o pa pl a L ∧ ALh g h1 pl v c1 mc rs ∧ RowsAt J n rs (ys.map phR) ∧ Gw I h0 J h1 ∧ Fr g h0 h1 [pa, pl] ∧ (J pa = none ∧ J pl = none) ∧ (v < gB g ∨ (h0 v = none ∧ J v = none))) (fun i => [some (.ref o), some (.ref gq), some (vz ((i : Nat) : Int)), none, none]) 0 (Nat.zero_le _) ⟨_, _, I, 0, [], _, _, _, rfl, KP1, HA1, ⟨rfl, fun i a row e1 => by simp at e1⟩, (Gw.refl hSI).fr F1 (fun x hx => Or.inl (by rw [List.mem_singleton.mp hx]; exact hIpa)), F1.more (fun x hx => Or.inl (by rw [List.mem_singleton.mp hx]; exact List.mem_cons_self)), ⟨hIpa, hIpl⟩, Or.inl K0.1.2⟩ (by omega) (by omega) (by repeat' first | exact rfl | exact trivial | exact vz_eq (by omega) | refine And.intro ?_ ?_) (fun i h2 _ hi hP1 hN => ?_) (fun h2 hP1 => ?_)
    · obtain ⟨L, ys, J, n, rs, v, c1, mc, hpN, KP, HA, R, G1, F1, hJ, hv⟩ := hP1
      have HD := H.fr F1 (fun x hx => (List.mem_cons.mp hx).elim (fun e => by rw [e]; exact hnd.1) (fun e => by rw [List.mem_singleton.mp e]; exact hnd.2))
      obtain ⟨K1, pf, K2, K3⟩ := id KP
      have hgq1 := F1.keep hgq hgp2
      have hSI1 := G1.1.trans G1.2.1
      obtain ⟨A, B, pv, sv, KD, hA, hB9, hV⟩ := id HD
      obtain ⟨k1, k2, k3, k4, k5, k6, k7, k8⟩ := id KD
      have hOL := plN_ok hE (by omega) i L ys (by omega) hpN
      have hNN : D.1.1 * D.1.2 ≤ 9 * 9 := Nat.mul_le_mul hco.2 hro.2
      have hfb : ∀ (e : Nat) (f : Nat → Nat) (k : Nat), e < 8 → L e = some f → k ≤ 20 → f k < 1000 := fun e f k he hf hk => by have := (hOL.1 e f he hf).2.2.2 k hk; omega
      have htst : tkB D i = true → 0 ≤ D.2.1 i ∧ D.2.1 i < 100 := fun q => by
        have := st_lt hO hi; unfold tkB at q; have := of_decide_eq_true q; omega
      cases htk : tkB D i with
      | false =>
        have hno : ¬ (tkB D i = true ∧ D.2.2.1 fm i ≠ -1) := fun q => by rw [htk] at q; cases q.1
        refine ev_iload_n dX20_plan_46 rfl ?_
        refine ev_bipushZ dX20_plan_47 rfl ?_
        refine ev_icmp_geZ (tgt := 146) dX20_plan_49 (by decide) (by omega) (by omega) (fun c49 => by omega) (fun c49 => ?_)
        refine ev_aload_n dX20_plan_52 rfl ?_
        refine ev_getf dX20_plan_53 gf_X20_3_X20 K1 rfl ?_
        refine ev_iload_n dX20_plan_56 rfl ?_
        refine ev_callVE dX20_plan_57 cv_X20_116_X2 ce_X2_takesPart k1 rfl rfl rfl (k_takesX2 (d := 0) HD hi (st_in hO hi)) (by omega) (Nat.le_of_ble_eq_true rfl) ?_
        refine ev_if_eqB (tgt := 140) dX20_plan_60 (by decide) (fun c60 => ?_) (fun c60 => by rw [htk] at c60; cases c60)
        refine ev_iincZ dX20_plan_140 rfl (by decide) rfl ?_
        dsimp only [List.set]
        refine ev_goto (tgt := 46) dX20_plan_143 (by decide) ?_
        exact hN _ _ _ _ (by omega) (by omega) (by repeat' first | exact rfl | exact trivial | exact vz_eq (by omega) | refine And.intro ?_ ?_) ⟨L, ys, J, n, rs, v, c1, mc, by rw [plN_s hpN, plS_no hno], KP, HA, R, G1, F1, hJ, hv⟩
      | true =>
        have htst := htst htk
        by_cases hgi : D.2.2.1 fm i = -1
        · have hno : ¬ (tkB D i = true ∧ D.2.2.1 fm i ≠ -1) := fun q => q.2 hgi
          refine ev_iload_n dX20_plan_46 rfl ?_
          refine ev_bipushZ dX20_plan_47 rfl ?_
          refine ev_icmp_geZ (tgt := 146) dX20_plan_49 (by decide) (by omega) (by omega) (fun c49 => by omega) (fun c49 => ?_)
          refine ev_aload_n dX20_plan_52 rfl ?_
          refine ev_getf dX20_plan_53 gf_X20_3_X20 K1 rfl ?_
          refine ev_iload_n dX20_plan_56 rfl ?_
          refine ev_callVE dX20_plan_57 cv_X20_116_X2 ce_X2_takesPart k1 rfl rfl rfl (k_takesX2 (d := 0) HD hi (st_in hO hi)) (by omega) (Nat.le_of_ble_eq_true rfl) ?_
          refine ev_if_eqB (tgt := 140) dX20_plan_60 (by decide) (fun c60 => by rw [htk] at c60; cases c60) (fun c60 => ?_)
          refine ev_aload_n dX20_plan_63 rfl ?_
          refine ev_iload_n dX20_plan_64 rfl ?_
          refine ev_ialdY dX20_plan_65 hgq1 (by omega) ?_
          rw [Int.toNat_natCast, hGf i hi]
          refine ev_iconstZ dX20_plan_66 ?_
          refine ev_icmp_eqZ (tgt := 140) dX20_plan_67 (by decide) (by omega) (by omega) (fun c67 => ?_) (fun c67 => by omega)
          refine ev_iincZ dX20_plan_140 rfl (by decide) rfl ?_
          dsimp only [List.set]
          refine ev_goto (tgt := 46) dX20_plan_143 (by decide) ?_
          exact hN _ _ _ _ (by omega) (by omega) (by repeat' first | exact rfl | exact trivial | exact vz_eq (by omega) | refine And.intro ?_ ?_) ⟨L, ys, J, n, rs, v, c1, mc, by rw [plN_s hpN, plS_no hno], KP, HA, R, G1, F1, hJ, hv⟩
        · have hgl := fo_lt hO hfm hi
          have hg8 := (hO.2.2.2.2.2.1 fm hfm).1 i hi
          have hdl := dnE_lt hE hi htk
          have hglN : (D.2.2.1 fm i).toNat < D.1.1 * D.1.2 := by have e9 : ((D.1.1 * D.1.2 : Nat) : Int) = (D.1.1 : Int) * (D.1.2 : Int) := Int.natCast_mul _ _; omega
          have hfr0 := hOL.fr hE hi htk hgi
          cases hen : enP D.1.1 D.1.2 L (dnE D P i) (D.2.2.1 fm i).toNat with
          | none =>
            refine ev_iload_n dX20_plan_46 rfl ?_
            refine ev_bipushZ dX20_plan_47 rfl ?_
            refine ev_icmp_geZ (tgt := 146) dX20_plan_49 (by decide) (by omega) (by omega) (fun c49 => by omega) (fun c49 => ?_)
            refine ev_aload_n dX20_plan_52 rfl ?_
            refine ev_getf dX20_plan_53 gf_X20_3_X20 K1 rfl ?_
            refine ev_iload_n dX20_plan_56 rfl ?_
            refine ev_callVE dX20_plan_57 cv_X20_116_X2 ce_X2_takesPart k1 rfl rfl rfl (k_takesX2 (d := 0) HD hi (st_in hO hi)) (by omega) (Nat.le_of_ble_eq_true rfl) ?_
            refine ev_if_eqB (tgt := 140) dX20_plan_60 (by decide) (fun c60 => by rw [htk] at c60; cases c60) (fun c60 => ?_)
            refine ev_aload_n dX20_plan_63 rfl ?_
            refine ev_iload_n dX20_plan_64 rfl ?_
            refine ev_ialdY dX20_plan_65 hgq1 (by omega) ?_
            rw [Int.toNat_natCast, hGf i hi]
            refine ev_iconstZ dX20_plan_66 ?_
            refine ev_icmp_eqZ (tgt := 140) dX20_plan_67 (by decide) (by omega) (by omega) (fun c67 => by omega) (fun c67 => ?_)
            refine ev_aload_n dX20_plan_70 rfl ?_
            refine ev_aload_n dX20_plan_71 rfl ?_
            refine ev_iload_n dX20_plan_72 rfl ?_
            refine ev_callVE dX20_plan_73 cv_X20_120_X20 ce_X20_end K1 rfl rfl rfl (k_end20 K1 HD hSI1 hp9 hP9 (e := i) hi htst hco h99 hn4 ⟨(hE.1 i hi htk).1.1, (hE.1 i hi htk).2.1⟩) (by omega) (Nat.le_of_ble_eq_true rfl) ?_
            refine ev_aload_n dX20_plan_76 rfl ?_
            refine ev_iload_n dX20_plan_77 rfl ?_
            refine ev_ialdY dX20_plan_78 hgq1 (by omega) ?_
            rw [Int.toNat_natCast, hGf i hi]
            refine ev_to (b := (((D.2.2.1 fm i).toNat : Nat) : Int)) (by omega) ?_
            refine ev_callVR dX20_plan_79 cv_X20_130_X20 ce_X20_find K1 rfl rfl rfl (k_find20 (c := 70) (k := 4244) (d := 10) hG (K0.fr F1) hSI1 KP HD hfb hco hro (s0 := dnE D P i) (gl := (D.2.2.1 fm i).toNat) hdl hglN hfr0 (Nat.le_refl _) (Nat.le_refl _) (Nat.le_refl _)) (by omega) (by omega) (by omega) (Nat.le_of_ble_eq_true rfl) (fun v9 h3 P9 => ?_)
            obtain ⟨hr9, F3⟩ := P9
            rcases hr9 with ⟨-, rfl⟩ | ⟨last, q, w, hen2, -⟩
            rotate_left
            · rw [hen] at hen2; cases hen2
            refine ev_astore_nN dX20_plan_82 (by decide) rfl ?_
            dsimp only [List.set]
            refine ev_aload_nN dX20_plan_83 rfl ?_
            refine ev_ifnonnullN dX20_plan_84 ?_
            refine ev_null dX20_plan_87 ?_
            refine ev_areturn dX20_plan_88 rfl (Or.inl ⟨_, rfl⟩) (Or.inl rfl) ?_
            exact ⟨_, rfl, Or.inl ⟨plN_none (n := i + 1) (by rw [plN_s hpN]; exact plS_none ⟨htk, hgi⟩ hen) 8 (by omega), rfl⟩, F1.call F3 nil_in⟩
          | some last =>
            obtain ⟨hl21, hft, -⟩ := find_some hen
            have hld := ld_back (C := D.1.1) (R := D.1.2) (L := L) (st := dnE D P i) (gl := (D.2.2.1 fm i).toNat) (last := last) last _ (Nat.le_refl _) (Bool.and_eq_true_iff.mp hft).1 (by rw [Nat.sub_self]; exact decide_eq_true rfl)
            by_cases hl0 : last = 0
            · refine ev_iload_n dX20_plan_46 rfl ?_
              refine ev_bipushZ dX20_plan_47 rfl ?_
              refine ev_icmp_geZ (tgt := 146) dX20_plan_49 (by decide) (by omega) (by omega) (fun c49 => by omega) (fun c49 => ?_)
              refine ev_aload_n dX20_plan_52 rfl ?_
              refine ev_getf dX20_plan_53 gf_X20_3_X20 K1 rfl ?_
              refine ev_iload_n dX20_plan_56 rfl ?_
              refine ev_callVE dX20_plan_57 cv_X20_116_X2 ce_X2_takesPart k1 rfl rfl rfl (k_takesX2 (d := 0) HD hi (st_in hO hi)) (by omega) (Nat.le_of_ble_eq_true rfl) ?_
              refine ev_if_eqB (tgt := 140) dX20_plan_60 (by decide) (fun c60 => by rw [htk] at c60; cases c60) (fun c60 => ?_)
              refine ev_aload_n dX20_plan_63 rfl ?_
              refine ev_iload_n dX20_plan_64 rfl ?_
              refine ev_ialdY dX20_plan_65 hgq1 (by omega) ?_
              rw [Int.toNat_natCast, hGf i hi]
              refine ev_iconstZ dX20_plan_66 ?_
              refine ev_icmp_eqZ (tgt := 140) dX20_plan_67 (by decide) (by omega) (by omega) (fun c67 => by omega) (fun c67 => ?_)
              refine ev_aload_n dX20_plan_70 rfl ?_
              refine ev_aload_n dX20_plan_71 rfl ?_
              refine ev_iload_n dX20_plan_72 rfl ?_
              refine ev_callVE dX20_plan_73 cv_X20_120_X20 ce_X20_end K1 rfl rfl rfl (k_end20 K1 HD hSI1 hp9 hP9 (e := i) hi htst hco h99 hn4 ⟨(hE.1 i hi htk).1.1, (hE.1 i hi htk).2.1⟩) (by omega) (Nat.le_of_ble_eq_true rfl) ?_
              refine ev_aload_n dX20_plan_76 rfl ?_
              refine ev_iload_n dX20_plan_77 rfl ?_
              refine ev_ialdY dX20_plan_78 hgq1 (by omega) ?_
              rw [Int.toNat_natCast, hGf i hi]
              refine ev_to (b := (((D.2.2.1 fm i).toNat : Nat) : Int)) (by omega) ?_
              refine ev_callVR dX20_plan_79 cv_X20_130_X20 ce_X20_find K1 rfl rfl rfl (k_find20 (c := 70) (k := 4244) (d := 10) hG (K0.fr F1) hSI1 KP HD hfb hco hro (s0 := dnE D P i) (gl := (D.2.2.1 fm i).toNat) hdl hglN hfr0 (Nat.le_refl _) (Nat.le_refl _) (Nat.le_refl _)) (by omega) (by omega) (by omega) (Nat.le_of_ble_eq_true rfl) (fun v9 h3 P9 => ?_)
              obtain ⟨hr9, F3⟩ := P9
              rcases hr9 with ⟨hen2, -⟩ | ⟨last2, q, w, hen2, rfl, HT, zq, zw⟩
              · rw [hen] at hen2; cases hen2
              rw [hen] at hen2
              cases hen2
              have F13 := F1.call F3 nil_in
              have KP3 := KP.fr0 F3
              clear K1 K2 K3
              obtain ⟨K1, pf, K2, K3⟩ := id KP3
              have HD3 := HD.fr F3 (fun x hx => by cases hx)
              have hSI3 := hSI1.fr0 F3
              clear k1 k2 k3 k4 k5 k6 k7 k8 KD hA hB9 hV
              obtain ⟨A3, B3, pv3, sv3, KD, hA, hB9, hV⟩ := id HD3
              obtain ⟨k1, k2, k3, k4, k5, k6, k7, k8⟩ := id KD
              have HA3 := HA.fr F3 (fun q => by cases q) (fun _ q => by cases q)
              refine ev_astore_n dX20_plan_82 (by decide) rfl ?_
              dsimp only [List.set]
              refine ev_aload_n dX20_plan_83 rfl ?_
              refine ev_ifnonnull (tgt := 89) dX20_plan_84 (by decide) ?_
              refine ev_aload_n dX20_plan_89 rfl ?_
              refine ev_iload_n dX20_plan_90 rfl ?_
              refine ev_aload_n dX20_plan_91 rfl ?_
              refine ev_iload_n dX20_plan_92 rfl ?_
              refine ev_callVE dX20_plan_93 cv_X20_120_X20 ce_X20_end K1 rfl rfl rfl (k_end20 K1 HD3 hSI3 hp9 hP9 (e := i) hi htst hco h99 hn4 ⟨(hE.1 i hi htk).1.1, (hE.1 i hi htk).2.1⟩) (by omega) (Nat.le_of_ble_eq_true rfl) ?_
              refine ev_aload_n dX20_plan_96 rfl ?_
              have hwl : ∀ k, k ≤ 20 → (wkP D.1.1 D.1.2 L (dnE D P i) (D.2.2.1 fm i).toNat last) k < 1000 := fun k hk => by
                by_cases y : k ≤ last
                · have := (wk_ok (C := D.1.1) (R := D.1.2) (L := L) (by omega) hdl hld k y).2.1; omega
                · rw [wk_stay k (by omega)]; have := (wk_ok (C := D.1.1) (R := D.1.2) (L := L) (by omega) hdl hld last (Nat.le_refl _)).2.1; omega
              have hsl : ((ssP D.1.1 D.1.2 L (dnE D P i) (D.2.2.1 fm i).toNat last).map sgN).length = last := by rw [List.length_map, ssP_len]
              have hK20 := k_keep20 (c := 1) (k := 21) (d := 6) (W := (wkP D.1.1 D.1.2 L (dnE D P i) (D.2.2.1 fm i).toNat last)) hG KP3 HD3 hpa hco hro hi HT hwl (by rw [hsl]; omega) (fun j hj => by
                  rw [hsl] at hj
                  obtain ⟨-, -, w3⟩ := wk_ok (C := D.1.1) (R := D.1.2) (L := L) (st := dnE D P i) (gl := (D.2.2.1 fm i).toNat) (last := last) (by omega) hdl hld (j + 1) (by omega)
                  obtain ⟨-, -, -, hnb⟩ := w3 j rfl
                  exact ⟨_, stO_4, by rw [List.getElem?_map, ssP_get hj]; rfl, hnb⟩) (fun j hj hj2 => by
                  rw [hsl] at hj
                  rw [wk_stay (j + 1) (by omega), wk_stay j hj]) (Nat.le_refl _) (Nat.le_refl _) (Nat.le_refl _)
              refine ev_callVR dX20_plan_97 cv_X20_126_X20 ce_X20_keep K1 rfl rfl rfl hK20 (by omega) (by omega) (by omega) (Nat.le_of_ble_eq_true rfl) (fun v9 h4 P9 => ?_)
              obtain ⟨rfl, KP4, F4⟩ := P9
              have HT4 := HT.fr F4 (fun _ q => by obtain ⟨_, _, _, y1, -⟩ := id HT; exact ne_of y1 K2 (by simp) (List.mem_singleton.mp q)) (fun _ q => by obtain ⟨_, _, _, -, y1, -⟩ := id HT; exact ne_of y1 K2 (by simp) (List.mem_singleton.mp q))
              have F14 := F13.call F4 (fun x hx => Or.inl (by rw [List.mem_singleton.mp hx]; exact List.mem_cons_self))
              have HA4 := HA3.fr F4 (fun q => ne_of HA3.1 K2 (by simp) (List.mem_singleton.mp q)) (fun _ q => by obtain ⟨fq, a3, -⟩ := id HA3.2.2.1; exact ne_of a3 K2 (by simp) (List.mem_singleton.mp q))
              have G4 := (G1.fr0 F3).fr F4 (fun x hx => Or.inl (by rw [List.mem_singleton.mp hx]; exact hJ.1))
              obtain ⟨sA, sx, sy, hs1, hs2, hsb, hsln⟩ := id HT4
              clear K1 K2 K3
              obtain ⟨K1, pf4, K2, K3⟩ := id KP4
              refine ev_aload_n dX20_plan_100 rfl ?_
              refine ev_callVE dX20_plan_101 cv_X20_134_J7 ce_J7_isEmpty hs1 rfl rfl rfl (st_isEmpty HT4) (by omega) (Nat.le_of_ble_eq_true rfl) ?_
              refine ev_if_neZ (tgt := 137) dX20_plan_104 (by decide) (by split <;> omega) (fun c104 => ?_) (fun c104 => by rw [hsl, if_pos hl0] at c104; omega)
              refine ev_iconstZ dX20_plan_137 ?_
              refine ev_istore dX20_plan_138 (by decide) rfl ?_
              dsimp only [List.set]
              refine ev_iincZ dX20_plan_140 rfl (by decide) rfl ?_
              dsimp only [List.set]
              refine ev_goto (tgt := 46) dX20_plan_143 (by decide) ?_
              have hpS : plN D P fm (i + 1) = some ((fun e => if e = i then some (wkP D.1.1 D.1.2 L (dnE D P i) (D.2.2.1 fm i).toNat last) else L e), ys ++ (if last = 0 then [] else [(i, (ssP D.1.1 D.1.2 L (dnE D P i) (D.2.2.1 fm i).toNat last))])) := by
                rw [plN_s hpN]
                exact plS_some ⟨htk, hgi⟩ hen
              rw [if_pos hl0, List.append_nil] at hpS
              exact hN _ _ _ _ (by omega) (by omega) (by repeat' first | exact rfl | exact trivial | exact vz_eq (by omega) | refine And.intro ?_ ?_) ⟨_, _, J, n, rs, v, c1, mc, hpS, KP4, HA4, R, G4, F14, hJ, hv⟩
            · refine ev_iload_n dX20_plan_46 rfl ?_
              refine ev_bipushZ dX20_plan_47 rfl ?_
              refine ev_icmp_geZ (tgt := 146) dX20_plan_49 (by decide) (by omega) (by omega) (fun c49 => by omega) (fun c49 => ?_)
              refine ev_aload_n dX20_plan_52 rfl ?_
              refine ev_getf dX20_plan_53 gf_X20_3_X20 K1 rfl ?_
              refine ev_iload_n dX20_plan_56 rfl ?_
              refine ev_callVE dX20_plan_57 cv_X20_116_X2 ce_X2_takesPart k1 rfl rfl rfl (k_takesX2 (d := 0) HD hi (st_in hO hi)) (by omega) (Nat.le_of_ble_eq_true rfl) ?_
              refine ev_if_eqB (tgt := 140) dX20_plan_60 (by decide) (fun c60 => by rw [htk] at c60; cases c60) (fun c60 => ?_)
              refine ev_aload_n dX20_plan_63 rfl ?_
              refine ev_iload_n dX20_plan_64 rfl ?_
              refine ev_ialdY dX20_plan_65 hgq1 (by omega) ?_
              rw [Int.toNat_natCast, hGf i hi]
              refine ev_iconstZ dX20_plan_66 ?_
              refine ev_icmp_eqZ (tgt := 140) dX20_plan_67 (by decide) (by omega) (by omega) (fun c67 => by omega) (fun c67 => ?_)
              refine ev_aload_n dX20_plan_70 rfl ?_
              refine ev_aload_n dX20_plan_71 rfl ?_
              refine ev_iload_n dX20_plan_72 rfl ?_
              refine ev_callVE dX20_plan_73 cv_X20_120_X20 ce_X20_end K1 rfl rfl rfl (k_end20 K1 HD hSI1 hp9 hP9 (e := i) hi htst hco h99 hn4 ⟨(hE.1 i hi htk).1.1, (hE.1 i hi htk).2.1⟩) (by omega) (Nat.le_of_ble_eq_true rfl) ?_
              refine ev_aload_n dX20_plan_76 rfl ?_
              refine ev_iload_n dX20_plan_77 rfl ?_
              refine ev_ialdY dX20_plan_78 hgq1 (by omega) ?_
              rw [Int.toNat_natCast, hGf i hi]
              refine ev_to (b := (((D.2.2.1 fm i).toNat : Nat) : Int)) (by omega) ?_
              refine ev_callVR dX20_plan_79 cv_X20_130_X20 ce_X20_find K1 rfl rfl rfl (k_find20 (c := 70) (k := 4244) (d := 10) hG (K0.fr F1) hSI1 KP HD hfb hco hro (s0 := dnE D P i) (gl := (D.2.2.1 fm i).toNat) hdl hglN hfr0 (Nat.le_refl _) (Nat.le_refl _) (Nat.le_refl _)) (by omega) (by omega) (by omega) (Nat.le_of_ble_eq_true rfl) (fun v9 h3 P9 => ?_)
              obtain ⟨hr9, F3⟩ := P9
              rcases hr9 with ⟨hen2, -⟩ | ⟨last2, q, w, hen2, rfl, HT, zq, zw⟩
              · rw [hen] at hen2; cases hen2
              rw [hen] at hen2
              cases hen2
              have F13 := F1.call F3 nil_in
              have KP3 := KP.fr0 F3
              clear K1 K2 K3
              obtain ⟨K1, pf, K2, K3⟩ := id KP3
              have HD3 := HD.fr F3 (fun x hx => by cases hx)
              have hSI3 := hSI1.fr0 F3
              clear k1 k2 k3 k4 k5 k6 k7 k8 KD hA hB9 hV
              obtain ⟨A3, B3, pv3, sv3, KD, hA, hB9, hV⟩ := id HD3
              obtain ⟨k1, k2, k3, k4, k5, k6, k7, k8⟩ := id KD
              have HA3 := HA.fr F3 (fun q => by cases q) (fun _ q => by cases q)
              refine ev_astore_n dX20_plan_82 (by decide) rfl ?_
              dsimp only [List.set]
              refine ev_aload_n dX20_plan_83 rfl ?_
              refine ev_ifnonnull (tgt := 89) dX20_plan_84 (by decide) ?_
              refine ev_aload_n dX20_plan_89 rfl ?_
              refine ev_iload_n dX20_plan_90 rfl ?_
              refine ev_aload_n dX20_plan_91 rfl ?_
              refine ev_iload_n dX20_plan_92 rfl ?_
              refine ev_callVE dX20_plan_93 cv_X20_120_X20 ce_X20_end K1 rfl rfl rfl (k_end20 K1 HD3 hSI3 hp9 hP9 (e := i) hi htst hco h99 hn4 ⟨(hE.1 i hi htk).1.1, (hE.1 i hi htk).2.1⟩) (by omega) (Nat.le_of_ble_eq_true rfl) ?_
              refine ev_aload_n dX20_plan_96 rfl ?_
              have hwl : ∀ k, k ≤ 20 → (wkP D.1.1 D.1.2 L (dnE D P i) (D.2.2.1 fm i).toNat last) k < 1000 := fun k hk => by
                by_cases y : k ≤ last
                · have := (wk_ok (C := D.1.1) (R := D.1.2) (L := L) (by omega) hdl hld k y).2.1; omega
                · rw [wk_stay k (by omega)]; have := (wk_ok (C := D.1.1) (R := D.1.2) (L := L) (by omega) hdl hld last (Nat.le_refl _)).2.1; omega
              have hsl : ((ssP D.1.1 D.1.2 L (dnE D P i) (D.2.2.1 fm i).toNat last).map sgN).length = last := by rw [List.length_map, ssP_len]
              have hK20 := k_keep20 (c := 1) (k := 21) (d := 6) (W := (wkP D.1.1 D.1.2 L (dnE D P i) (D.2.2.1 fm i).toNat last)) hG KP3 HD3 hpa hco hro hi HT hwl (by rw [hsl]; omega) (fun j hj => by
                  rw [hsl] at hj
                  obtain ⟨-, -, w3⟩ := wk_ok (C := D.1.1) (R := D.1.2) (L := L) (st := dnE D P i) (gl := (D.2.2.1 fm i).toNat) (last := last) (by omega) hdl hld (j + 1) (by omega)
                  obtain ⟨-, -, -, hnb⟩ := w3 j rfl
                  exact ⟨_, stO_4, by rw [List.getElem?_map, ssP_get hj]; rfl, hnb⟩) (fun j hj hj2 => by
                  rw [hsl] at hj
                  rw [wk_stay (j + 1) (by omega), wk_stay j hj]) (Nat.le_refl _) (Nat.le_refl _) (Nat.le_refl _)
              refine ev_callVR dX20_plan_97 cv_X20_126_X20 ce_X20_keep K1 rfl rfl rfl hK20 (by omega) (by omega) (by omega) (Nat.le_of_ble_eq_true rfl) (fun v9 h4 P9 => ?_)
              obtain ⟨rfl, KP4, F4⟩ := P9
              have HT4 := HT.fr F4 (fun _ q => by obtain ⟨_, _, _, y1, -⟩ := id HT; exact ne_of y1 K2 (by simp) (List.mem_singleton.mp q)) (fun _ q => by obtain ⟨_, _, _, -, y1, -⟩ := id HT; exact ne_of y1 K2 (by simp) (List.mem_singleton.mp q))
              have F14 := F13.call F4 (fun x hx => Or.inl (by rw [List.mem_singleton.mp hx]; exact List.mem_cons_self))
              have HA4 := HA3.fr F4 (fun q => ne_of HA3.1 K2 (by simp) (List.mem_singleton.mp q)) (fun _ q => by obtain ⟨fq, a3, -⟩ := id HA3.2.2.1; exact ne_of a3 K2 (by simp) (List.mem_singleton.mp q))
              have G4 := (G1.fr0 F3).fr F4 (fun x hx => Or.inl (by rw [List.mem_singleton.mp hx]; exact hJ.1))
              obtain ⟨sA, sx, sy, hs1, hs2, hsb, hsln⟩ := id HT4
              clear K1 K2 K3
              obtain ⟨K1, pf4, K2, K3⟩ := id KP4
              refine ev_aload_n dX20_plan_100 rfl ?_
              refine ev_callVE dX20_plan_101 cv_X20_134_J7 ce_J7_isEmpty hs1 rfl rfl rfl (st_isEmpty HT4) (by omega) (Nat.le_of_ble_eq_true rfl) ?_
              refine ev_if_neZ (tgt := 137) dX20_plan_104 (by decide) (by split <;> omega) (fun c104 => absurd rfl (by rw [hsl, if_neg hl0] at c104; exact c104)) (fun c104 => ?_)
              refine ev_aload_n dX20_plan_107 rfl ?_
              refine ev_getf dX20_plan_108 gf_X20_24_X20 K1 rfl ?_
              refine ev_newC (c' := 80 * (8 - i) - 72) (k' := 4400 * (8 - i) - 4268) [vz 0, .null, .null] dX20_plan_111 cf_X13 q2626 q1832 q163 rfl (by omega) (by omega) (fun q1 hp_2 e3 B4 Hq1_5 f6 => ?_)
              have K1_7 := (f6 _ (ne_no K1 e3)).trans K1
              have hs1_8 := (f6 _ (ne_no hs1 e3)).trans hs1
              have z9 := ((Fr.refl (g := g) h4 [])).fresh e3
              have F10 := ((Fr.refl (g := g) h4 [])).alloc (Or.inl ⟨_, Hq1_5⟩) f6 e3
              refine ev_dup dX20_plan_114 rfl ?_
              refine ev_iconstZ dX20_plan_115 ?_
              refine ev_aload_n dX20_plan_116 rfl ?_
              refine ev_iconstZ dX20_plan_117 ?_
              refine ev_newA_int (N := 1) (c' := 80 * (8 - i) - 73) (k' := 4400 * (8 - i) - 4269) dX20_plan_118 (by omega) (by omega) (by omega) (by omega) (by omega) (fun q11 hp_12 e13 B14 Hq11_15 f16 => ?_)
              have K1_17 := (f16 _ (ne_no K1_7 e13)).trans K1_7
              have hs1_18 := (f16 _ (ne_no hs1_8 e13)).trans hs1_8
              have Hq1_19 := (f16 _ (ne_no Hq1_5 e13)).trans Hq1_5
              have z20 := (F10).fresh e13
              have F21 := (F10).alloc (Or.inr ⟨_, Hq11_15, Nat.le_of_ble_eq_true rfl⟩) f16 e13
              refine ev_dup dX20_plan_120 rfl ?_
              refine ev_iconstZ dX20_plan_121 ?_
              refine ev_iload_n dX20_plan_122 rfl ?_
              refine ev_iastY dX20_plan_123 Hq11_15 B14 (by omega) trivial (fun hp_22 Hq11_23 f24 => ?_)
              have K1_25 := (f24 _ (ne_no K1_7 e13)).trans K1_17
              have hs1_26 := (f24 _ (ne_no hs1_8 e13)).trans hs1_18
              have Hq1_27 := (f24 _ (ne_no Hq1_5 e13)).trans Hq1_19
              have F28 := (F21).writeN (Or.inr ⟨_, Hq11_23, Nat.le_of_ble_eq_true rfl⟩) f24 z20
              refine ev_callVR dX20_plan_124 ci_X20_140 ce_X13_init Hq1_27 rfl rfl rfl (k_i13 (n := 0) (st := q) (da := q11) Hq1_27 B4) (by omega) (by omega) (by omega) (Nat.le_of_ble_eq_true rfl) (fun vI hp_29 PI => ?_)
              obtain ⟨rfl, hnI, frI⟩ := PI
              have K1_30 := frI.keep K1_25 (by simp only [List.mem_cons, List.not_mem_nil, or_false, not_or]; exact (ne_no K1 e3))
              have hs1_31 := frI.keep hs1_26 (by simp only [List.mem_cons, List.not_mem_nil, or_false, not_or]; exact (ne_no hs1 e3))
              have Hq11_32 := frI.keep Hq11_23 (by simp only [List.mem_cons, List.not_mem_nil, or_false, not_or]; exact ((ne_no Hq1_5 e13)).symm)
              have F33 := (F28).call frI (fun x hx => Or.inr (Or.inl (by rw [List.mem_singleton.mp hx]; exact z9)))
              have F5 := F33
              have HA7 := HA4.fr F5 (fun q => by cases q) (fun _ q => by cases q)
              have K07 := K0.fr (F14.call F5 nil_in)
              have hrl : rs.length ≤ 8 := by rw [R.1, List.length_map]; have := hOL.2.1; omega
              have z5 : h0 q1 = none := F14.fresh z9
              have z6 : h0 q11 = none := F14.fresh z20
              have hx5 := hnI
              have hx6 := Hq11_32
              refine ev_callVR dX20_plan_127 cv_X20_143_J26 ce_J26_add HA7.1 rfl rfl rfl (al_add hG K07.1.1 HA7 (by omega) (Or.inl ⟨_, hx5⟩)) (by omega) (by omega) (by omega) (Nat.le_of_ble_eq_true rfl) (fun v9 h8 P9 => ?_)
              obtain ⟨rfl, v8, c8, HA8, hv8, F8⟩ := P9
              have HT7 := HT4.fr F5 (fun _ q => by cases q) (fun _ q => by cases q)
              obtain ⟨sA7, sx7, sy7, hs17, hs27, hsb7, hsl7⟩ := id HT7
              have fq7 := HA7.2.2.1
              obtain ⟨fq7, a37, -⟩ := fq7
              have mem7 : ∀ x : Nat, x ≠ pl → x ≠ v → x ∉ [pl, v] := fun x a b hx => (List.mem_cons.mp hx).elim a (fun e => b (List.mem_singleton.mp e))
              have G8 := (G4.fr0 F5).fr F8 (fun x hx => (List.mem_cons.mp hx).elim (fun e => by rw [e]; exact Or.inl hJ.2) (fun e => by rw [List.mem_singleton.mp e]; exact hv.elim Or.inr (fun e => Or.inl e.2)))
              have hx58 := F8.keep hx5 (mem7 _ (ne_of hx5 HA7.1 (by simp)) (ne_of hx5 a37 (by simp)))
              have hx68 := F8.keep hx6 (mem7 _ (ne_of hx6 HA7.1 (by simp)) (ne_of hx6 a37 (by simp)))
              have hs18 := F8.keep hs17 (mem7 _ (ne_of hs17 HA7.1 (by simp)) (ne_of hs17 a37 (by simp)))
              have hs28 := F8.keep hs27 (mem7 _ (ne_of hs27 HA7.1 (by simp)) (ne_of hs27 a37 (by simp)))
              have KP8 := (KP4.fr0 F5).fr F8 (mem7 _ (ne_of ((KP4.fr0 F5).1) HA7.1 (by simp)) (ne_of ((KP4.fr0 F5).1) a37 (by simp))) (by obtain ⟨-, pf7, e7, -⟩ := KP4.fr0 F5; exact mem7 _ (ne_of e7 HA7.1 (by simp)) (ne_of e7 a37 (by simp))) (fun x hx A e => (List.mem_cons.mp hx).elim (fun r => by rw [r, HA7.1] at e; simp at e) (fun r => by rw [List.mem_singleton.mp r, a37] at e; simp at e))
              have zw0 : h0 w = none := F1.fresh zw
              have zq0 : h0 q = none := F1.fresh zq
              obtain ⟨JA, GA, sA1, cA, oA⟩ := G8.ex hSI hs28 zw0
              obtain ⟨JB, GB, sB1, cB, oB⟩ := GA.ex hSI hs18 zq0
              obtain ⟨JC, GC, sC1, cC, oC⟩ := GB.ex hSI hx68 z6
              obtain ⟨JD, GD, sD1, cD, oD⟩ := GC.ex hSI hx58 z5
              have oJ : ∀ x, x ≠ w → x ≠ q → x ≠ q11 → x ≠ q1 → JD x = J x := fun x a b c e => by rw [oD x e, oC x c, oB x b, oA x a]
              have hJv : J v = none → JD v = none := fun e => by rw [oJ v (ne_of a37 hs27 (by simp)) (ne_of a37 hs17 (by simp)) (ne_of a37 hx6 (by simp)) (ne_of a37 hx5 (by simp))]; exact e
              have GD8 : hp_29 v8 = none → JD v8 = none := fun e => by rw [oJ v8 (ne_no hs27 e).symm (ne_no hs17 e).symm (ne_no hx6 e).symm (ne_no hx5 e).symm]; exact (G4.fr0 F5).2.1.none e
              have F18 := (F14.call F5 nil_in).call F8 (fun x hx => (List.mem_cons.mp hx).elim (fun e => by rw [e]; exact Or.inl (List.mem_cons_of_mem _ List.mem_cons_self)) (fun e => by rw [List.mem_singleton.mp e]; exact hv.elim (fun e => Or.inr (Or.inr e)) (fun e => Or.inr (Or.inl e.1))))
              refine ev_if_eqZ (tgt := 137) dX20_plan_130 (by decide) (by omega) (fun c130 => by omega) (fun c130 => ?_)
              refine ev_iconstZ dX20_plan_133 ?_
              refine ev_goto (tgt := 138) dX20_plan_134 (by decide) ?_
              refine ev_istore dX20_plan_138 (by decide) rfl ?_
              dsimp only [List.set]
              refine ev_iincZ dX20_plan_140 rfl (by decide) rfl ?_
              dsimp only [List.set]
              refine ev_goto (tgt := 46) dX20_plan_143 (by decide) ?_
              have hpS : plN D P fm (i + 1) = some ((fun e => if e = i then some (wkP D.1.1 D.1.2 L (dnE D P i) (D.2.2.1 fm i).toNat last) else L e), ys ++ (if last = 0 then [] else [(i, (ssP D.1.1 D.1.2 L (dnE D P i) (D.2.2.1 fm i).toNat last))])) := by
                rw [plN_s hpN]
                exact plS_some ⟨htk, hgi⟩ hen
              rw [if_neg hl0] at hpS
              have NJ : NodeAt JD 1 q1 (tidy (phR (i, (ssP D.1.1 D.1.2 L (dnE D P i) (D.2.2.1 fm i).toNat last)))) := NodeAt.leaf0 cD (sD1 _ _ cC) rfl ⟨sA7, sx7, sy7, sD1 _ _ (sC1 _ _ cB), sD1 _ _ (sC1 _ _ (sB1 _ _ cA)), hsb7, hsl7⟩
              skip
              refine hN _ _ _ _ (by omega) (by omega) (by repeat' first | exact rfl | exact trivial | exact vz_eq (by omega) | refine And.intro ?_ ?_) ⟨_, _, _, max n 1, rs ++ [q1], v8, c8, _, hpS, KP8, HA8, (by rw [List.map_append]; exact R.app (fun x y hx => sD1 _ _ (sC1 _ _ (sB1 _ _ (sA1 _ _ hx)))) NJ), GD, F18, ⟨?_, ?_⟩, ?_⟩
              · exact GD.nn hpan hIpa
              · exact GD.nn hpln hIpl
              · rcases hv8 with e | e
                · rw [e]; rcases hv with e2 | e2
                  · exact Or.inl e2
                  · exact Or.inr ⟨e2.1, hJv e2.2⟩
                · exact Or.inr ⟨(F14.call F5 nil_in).fresh e, GD8 e⟩
    · obtain ⟨L, ys, J, n, rs, v, c1, mc, hpN, KP, HA, R, G1, F1, hJ, hv⟩ := hP1
      obtain ⟨K1, pf, K2, K3⟩ := id KP
      refine ev_iload_n dX20_plan_46 rfl ?_
      refine ev_bipushZ dX20_plan_47 rfl ?_
      refine ev_icmp_geZ (tgt := 146) dX20_plan_49 (by decide) (by omega) (by omega) (fun c49 => ?_) (fun c49 => by omega)
      refine ev_aload_n dX20_plan_146 rfl ?_
      refine ev_getf dX20_plan_147 gf_X20_24_X20 K1 rfl ?_
      refine ev_areturn dX20_plan_150 rfl (Or.inl ⟨_, rfl⟩) (Or.inr ⟨_, rfl⟩) ?_
      exact ⟨_, rfl, Or.inr ⟨L, ys, J, n, rs, v, c1, mc, hpN, rfl, HA, R, G1, hJ, hv⟩, F1⟩
end W6S

/-! THE COMPONENT: the parser, enclosed (printed by gen) -/
section V5S
variable {g : GB} {M : MI} {d c k : Nat} {h : HM}
variable {I h0 J : HM} {ps tb tv cap ne m : Nat} {t : List Nat}
def parM (m : Nat) : MI := if m = 0 then mX6_unit else if m = 1 then mX6_repeated else if m = 2 then mX6_layer else mX6_series
/-- the parser's method of the mode m, at p with nst levels, parses as prs does -/
def PCon (g : GB) (t : List Nat) (f m nst p : Nat) : Prop := ∀ (I h : HM) (ps tb tv cap d c k : Nat), KC g h → gB g ≤ ps → Sub I h → I ps = none → ParC h ps tb p nst → SBh g h tb tv cap t → p ≤ t.length → nst ≤ 10 → 4 * (t.length - p) + m + 1 ≤ f → 5 * (10 - nst) + 20 + m ≤ d → 20 * endP (prs t f m nst p) + (10 + 4 * (m - 1)) ≤ c + 20 * p → 1000 * endP (prs t f m nst p) + (100 + 230 * (m - 1)) ≤ k + 1000 * p → Kc g (parM m) d c k [.ref ps] h (PrQ g I h ps tb nst m (prs t f m nst p))
/-- at pos, nothing made yet -/
def PsS (g : GB) (I h0 : HM) (ps tb tv cap ne : Nat) (t : List Nat) (J : HM) (pos : Nat) (h : HM) : Prop :=
  ParC h ps tb pos ne ∧ SBh g h tb tv cap t ∧ Gw I h0 J h ∧ Fr g h0 h [ps] ∧ J ps = none
theorem PsS.part {J' h' : HM} {pos pos' ne' : Nat} (L : PsS g I h0 ps tb tv cap ne t J pos h) (G2 : Gw J h J' h') (hp : ParC h' ps tb pos' ne') (f : Fr g h h' [ps]) : PsS g I h0 ps tb tv cap ne' t J' pos' h' := by
  obtain ⟨hP, HT, G, F, j1⟩ := L
  obtain ⟨TA, t1, t2, t3, t4, -⟩ := id HT
  have e1 : tb ≠ ps := ne_of t1 hP (by simp)
  have e2 : tv ≠ ps := ne_of t3 hP (by simp)
  have n1 : h ps ≠ none := by rw [show h ps = _ from hP]; exact fun q => by cases q
  exact ⟨hp, HT.fr f (fun q => e1 (List.mem_singleton.mp q)) (fun q => e2 (List.mem_singleton.mp q)), G.trans F G2, F.call f (fun x hx => Or.inl hx), G2.nn n1 j1⟩
theorem PsS.take {h' : HM} {pos pos' ne' : Nat} (L : PsS g I h0 ps tb tv cap ne t J pos h) (hp : ParC h' ps tb pos' ne') (f : Fr g h h' [ps]) : PsS g I h0 ps tb tv cap ne' t J pos' h' :=
  L.part ((Gw.refl L.2.2.1.2.1).fr f (fun x hx => Or.inl (by rw [List.mem_singleton.mp hx]; exact L.2.2.2.2))) hp f
theorem PsS.err {pos e : Nat} {r : RS} {h2 : HM} (L : PsS g I h0 ps tb tv cap ne t J pos h) (q : synQ g h [] e r h2) : synE g h0 ps tb ne e r h2 := by
  obtain ⟨q, e1, z, x, f⟩ := q
  exact ⟨q, pos, e1, L.2.2.2.1.fresh z, x, f.keep L.1 (fun q => by cases q), L.2.2.2.1.call f nil_in⟩
theorem synE.pre {h1 h2 : HM} {e : Nat} {r : RS} (F : Fr g h0 h1 [ps]) (q : synE g h1 ps tb ne e r h2) : synE g h0 ps tb ne e r h2 := by
  obtain ⟨q, p', e1, z, x, y, f⟩ := q
  exact ⟨q, p', e1, F.fresh z, x, y, F.call f (fun x hx => Or.inl hx)⟩
theorem PrQ.inl {x : PR} {v : Option Value} {h' : HM} (q : PrQ g I h ps tb ne m x (.inl v) h') : ∃ a : Nat, v = some (.ref a) := by
  cases x with
  | error e => obtain ⟨q, p', e1, -⟩ := q; cases e1
  | ok r => obtain ⟨a, n, J, e1, -⟩ := q; cases e1; exact ⟨a, rfl⟩
/-- told from an earlier heap on, and of another mode with the same rows -/
theorem PrQ.pre {pos m' : Nat} {x : PR} {r : RS} {h2 : HM} (L : PsS g I h0 ps tb tv cap ne t I pos h) (hm : ∀ rs, nodR m rs = nodR m' rs) (q : PrQ g I h ps tb ne m x r h2) : PrQ g I h0 ps tb ne m' x r h2 := by
  cases x with
  | error e => exact synE.pre L.2.2.2.1 q
  | ok r =>
    obtain ⟨a, n, J, e1, G, N, p1, f⟩ := q
    exact ⟨a, n, J, e1, L.2.2.1.trans L.2.2.2.1 G, by rw [← hm]; exact N, p1, L.2.2.2.1.call f (fun x hx => Or.inl hx)⟩
theorem k_takesT {pos : Nat} {h : HM} (hG : GKx g) (L : PsS g I h0 ps tb tv cap ne t J pos h) (hu9 : ∀ u ∈ t, u < 128) (hl : t.length ≤ 100) (hpn : pos ≤ t.length) {lo : Nat} (hlh : lo < 200) (hB : gB g ≤ ps) (hn : hrV t pos = (lo : Int)) : Kc g mX6_takes 7 0 0 [.ref ps, vz ((lo : Nat) : Int)] h (rR (fun v h' => v = some (vz 1) ∧ PsS g I h0 ps tb tv cap ne t J (pos + 1) h')) := by
  have hb : nx t pos lo lo = true := by rw [nx_eq]; exact decide_eq_true hn
  have := k_takes (lo := lo) hG L.1 L.2.1 hu9 (by omega) hpn hlh hB
  rw [hb] at this
  exact this.mono (fun r h2 q => by
    obtain ⟨v, e1, e2, e3, e4⟩ := q
    exact ⟨v, e1, e2, L.take e3 e4⟩)
theorem k_takesF {pos : Nat} {h : HM} (hG : GKx g) (L : PsS g I h0 ps tb tv cap ne t J pos h) (hu9 : ∀ u ∈ t, u < 128) (hl : t.length ≤ 100) (hpn : pos ≤ t.length) {lo : Nat} (hlh : lo < 200) (hB : gB g ≤ ps) (hn : hrV t pos ≠ (lo : Int)) : Kc g mX6_takes 7 0 0 [.ref ps, vz ((lo : Nat) : Int)] h (rR (fun v h' => v = some (vz 0) ∧ PsS g I h0 ps tb tv cap ne t J pos h')) := by
  have hb : nx t pos lo lo = false := by rw [nx_eq]; exact decide_eq_false hn
  have := k_takes (lo := lo) hG L.1 L.2.1 hu9 (by omega) hpn hlh hB
  rw [hb] at this
  exact this.mono (fun r h2 q => by
    obtain ⟨v, e1, e2, e3, e4⟩ := q
    exact ⟨v, e1, e2, L.take e3 e4⟩)
/-- a node with one part -/
theorem NodeAt.one {J J' : HM} {n a r : Nat} {nd : Nd} {l : List Nd} (H : NodeAt J n a l) (hS : Sub J J') (h1 : nd.2.2.1 = 1) (h3 : 3 ≤ nd.1) (hc : ndC J' r nd [a]) : NodeAt J' (n + 1) r (nd :: l) :=
  ⟨nd, [l], [a], by rw [List.flatten_cons, List.flatten_nil, List.append_nil], h1, ⟨fun q => absurd q (by omega), fun q => by cases q⟩, rfl, hc, fun i q c h1 h2 => by
    cases i with
    | zero => cases h1; cases h2; exact H.sub hS
    | succ i => simp at h1⟩
theorem tidy_one {k v : Nat} {rs : List (List Nd)} (hk : k < 6) : tidy (nodR 0 [(k, v, 1, [], []) :: rs.flatten]) = (k, v, 1, [], []) :: tidy rs.flatten := by
  show tidy ([(k, v, 1, [], []) :: rs.flatten].flatten) = _
  rw [List.flatten_cons, List.flatten_nil, List.append_nil]
  exact tidy_t (by unfold kpNd; rw [decide_eq_true hk]; rfl)
set_option maxRecDepth 100000 in
set_option maxHeartbeats 4000000 in
theorem enc_fin {q e pos : Nat} {x1 : Int} {y2 : Option Value} {h : HM} (hB : gB g ≤ ps) (hP : ParC h ps tb pos (ne + 1)) (hq : h q = some (.inr (6, [.null, .null, .null, .null, .null, vz 0, vz ((e : Nat) : Int)]))) (z : h0 q = none) (F : Fr g h0 h [ps]) : Ev g mX6_enclosed d c k (synE g h0 ps tb ne e) 63 [some (.ref ps), some (vz x1), y2, none, none, none] [.ref q] h := by
  refine ev_astore dX6_enclosed_63 (by decide) rfl ?_
  dsimp only [List.set]
  refine ev_aload_n dX6_enclosed_65 rfl ?_
  refine ev_dup dX6_enclosed_66 rfl ?_
  refine ev_getf dX6_enclosed_67 gf_X6_84_X6 hP rfl ?_
  refine ev_iconstZ dX6_enclosed_70 ?_
  refine ev_isubZ dX6_enclosed_71 ?_
  refine ev_putC [.ref tb, vz ((pos : Nat) : Int), vz ((((ne + 1 : Nat)) : Int) - 1)] dX6_enclosed_72 gf_X6_84_X6 hP hB (Or.inl rfl) rfl rfl (Nat.le_of_ble_eq_true rfl) rfl (fun hp_1 hP_2 f3 => ?_)
  have F4 := ((Fr.refl (g := g) _ [ps])).write (Or.inl ⟨_, hP_2⟩) f3 hB (by simp)
  refine ev_aload dX6_enclosed_75 rfl ?_
  have hq2 := (f3 q (ne_of hq hP (by simp))).trans hq
  have hP2 : ParC hp_1 ps tb pos ne := by have q9 := hP_2; rw [show (((ne + 1 : Nat)) : Int) - 1 = ((ne : Nat) : Int) by omega] at q9; exact q9
  exact ev_athrow (C := "") dX6_enclosed_77 hq2 rfl (evx_out rfl ⟨q, pos, rfl, z, hq2, hP2, F.call F4 (fun x hx => Or.inl hx)⟩)
set_option maxRecDepth 100000 in
set_option maxHeartbeats 4000000 in
theorem k_enc (hG : GKx g) (K0 : KC g h) (hB : gB g ≤ ps) (hu9 : ∀ u ∈ t, u < 128) (hl : t.length ≤ 100) (hSI : Sub I h) (hIp : I ps = none) {f p : Nat} (HP : ParC h ps tb p ne) (HT : SBh g h tb tv cap t) (hp : p ≤ t.length) (hne : ne ≤ 10) (hf : 4 * (t.length - p) ≤ f) (IH : ∀ ne' p', PCon g t f 3 ne' p') (hd : 5 * (10 - ne) + 19 ≤ d) (hc : 20 * endP (opnP t ne p (prs t f 3 (ne + 1) (p + 1))) + 9 ≤ c + 20 * p) (hk : 1000 * endP (opnP t ne p (prs t f 3 (ne + 1) (p + 1))) + 90 ≤ k + 1000 * p) : Kc g mX6_enclosed d c k [.ref ps] h (PrQ g I h ps tb ne 0 (opnP t ne p (prs t f 3 (ne + 1) (p + 1)))) := by
  refine Kc.of (ls := [some (.ref ps), none, none, none, none, none]) (by decide +kernel) (Nat.le_of_ble_eq_true rfl) rfl ?_
  have L0 : PsS g I h ps tb tv cap ne t I p h := ⟨HP, HT, Gw.refl hSI, Fr.refl _ _, hIp⟩
  generalize hX : prs t f 3 (ne + 1) (p + 1) = X at hc hk ⊢
  have IH := IH (ne + 1) (p + 1)
  have hn40 : nx t p 40 40 = decide (hrV t p = 40) := nx_eq
  have gO : opnP t ne p X = if hrV t p = 40 ∧ ne ≤ 9 then encP t X else .error p := rfl
  by_cases h10 : ne = 10
  · rw [if_neg (by omega)] at gO
    rw [gO] at hc hk ⊢
    have hc : 20 * p + 9 ≤ c + 20 * p := hc
    have hk : 1000 * p + 90 ≤ k + 1000 * p := hk
    refine ev_aload_n dX6_enclosed_0 rfl ?_
    refine ev_getf dX6_enclosed_1 gf_X6_84_X6 HP rfl ?_
    refine ev_bipushZ dX6_enclosed_4 rfl ?_
    refine ev_icmp_neZ (tgt := 14) dX6_enclosed_6 (by decide) (by omega) (by omega) (fun c6 => by omega) (fun c6 => ?_)
    refine ev_aload_n dX6_enclosed_9 rfl ?_
    refine ev_callVR dX6_enclosed_10 cv_X6_42_X6 ce_X6_fault HP rfl rfl rfl (k_fault hG HP) (by omega) (by omega) (by omega) (Nat.le_of_ble_eq_true rfl) (fun v9 h2 P9 => ?_)
    obtain ⟨q, rfl, zq9, hq9, fr9⟩ := P9
    exact ev_athrow (C := "") dX6_enclosed_13 hq9 rfl (evx_out rfl (L0.err ⟨q, rfl, zq9, hq9, fr9⟩))
  · by_cases h40 : hrV t p = 40
    · rw [decide_eq_true h40] at hn40
      rw [if_pos ⟨h40, by omega⟩] at gO
      rw [gO] at hc hk ⊢
      have hlt := hrV_in h40 (by decide)
      have hge := prs_ge (t := t) f 3 (ne + 1) (p + 1) (by omega) (by omega) (by omega)
      rw [hX] at hge
      cases hx : X with
      | error e =>
        rw [hx] at hc hk
        have hc : 20 * e + 9 ≤ c + 20 * p := hc
        have hk : 1000 * e + 90 ≤ k + 1000 * p := hk
        have hX9 : endP X = e := by rw [hx]; rfl
        rw [hX9] at hge
        show Ev g mX6_enclosed d c k (synE g h ps tb ne e) 0 _ _ _
        refine ev_aload_n dX6_enclosed_0 rfl ?_
        refine ev_getf dX6_enclosed_1 gf_X6_84_X6 HP rfl ?_
        refine ev_bipushZ dX6_enclosed_4 rfl ?_
        refine ev_icmp_neZ (tgt := 14) dX6_enclosed_6 (by decide) (by omega) (by omega) (fun c6 => ?_) (fun c6 => by omega)
        refine ev_aload_n dX6_enclosed_14 rfl ?_
        refine ev_bipushZ dX6_enclosed_15 rfl ?_
        refine ev_bipushZ dX6_enclosed_17 rfl ?_
        refine ev_callVR dX6_enclosed_19 cv_X6_72_X6 ce_X6_take L0.1 rfl rfl rfl (k_takeT (lo := 40) (hi := 40) hG L0.1 L0.2.1 hu9 (by omega) (by omega) (by omega) hB hn40) (by omega) (by omega) (by omega) (Nat.le_of_ble_eq_true rfl) (fun vL1 hL1 PL1 => ?_)
        obtain ⟨uL1, huL1, hrL1, rfl, HPL1, frL1⟩ := PL1
        have L1 := L0.take HPL1 frL1
        refine ev_istore_n dX6_enclosed_22 (by decide) rfl ?_
        dsimp only [List.set]
        refine ev_aload_n dX6_enclosed_23 rfl ?_
        refine ev_dup dX6_enclosed_24 rfl ?_
        refine ev_getf dX6_enclosed_25 gf_X6_84_X6 L1.1 rfl ?_
        refine ev_iconstZ dX6_enclosed_28 ?_
        refine ev_iaddZ dX6_enclosed_29 ?_
        refine ev_putC [.ref tb, vz (((p + 1 : Nat)) : Int), vz (((ne : Nat) : Int) + 1)] dX6_enclosed_30 gf_X6_84_X6 L1.1 hB (Or.inl rfl) rfl rfl (Nat.le_of_ble_eq_true rfl) rfl (fun h2 hp2 f2 => ?_)
        have L2 : PsS g I h ps tb tv cap (ne + 1) t I (p + 1) h2 := L1.take (ne' := ne + 1) (show ParC h2 ps tb (p + 1) (ne + 1) from hp2) ((Fr.refl (g := g) hL1 [ps]).write (Or.inl ⟨_, hp2⟩) f2 hB (List.mem_singleton_self _))
        refine ev_aload_n dX6_enclosed_33 rfl ?_
        have hx2 := IH I h2 ps tb tv cap (d - 1) (20 * e + 18 - 20 * (p + 1)) (1000 * e + 560 - 1000 * (p + 1)) (K0.fr L2.2.2.2.1) hB L2.2.2.1.2.1 hIp L2.1 L2.2.1 (by omega) (by omega) (by omega) (by omega) (by rw [hX, hX9]; omega) (by rw [hX, hX9]; omega)
        rw [hX, hx] at hx2
        refine ev_callV dX6_enclosed_34 cv_X6_87_X6 ce_X6_series L2.1 rfl rfl rfl hx2 (by omega) (by omega) (by omega) (Nat.le_of_ble_eq_true rfl) (fun v h3 q => ?_) (fun E q9 h3 r => ?_)
        · obtain ⟨q9, p9, e9, -⟩ := q; cases e9
        · obtain ⟨q8, p9, e9, z9, x9, y9, f9⟩ := r
          cases e9
          exact evx_any [] ⟨33, 50, 63, 0⟩ [⟨63, 65, 63, 0⟩] rfl (fun z hz => by cases hz) rfl rfl (enc_fin hB y9 x9 (L2.2.2.2.1.fresh z9) (L2.2.2.2.1.call f9 (fun x hx => Or.inl hx)))
      | ok r =>
        have hX9 : endP X = r.2 := by rw [hx]; rfl
        have hgo := prs_go t f 3 (ne + 1) (p + 1) r (by omega) (by omega) (by rw [hX, hx])
        rw [hx] at hc hk
        have hn41 : nx t r.2 41 41 = decide (hrV t r.2 = 41) := nx_eq
        have gE : encP t (.ok r) = if hrV t r.2 = 41 then .ok ([serR r.1], r.2 + 1) else .error r.2 := rfl
        by_cases h41 : hrV t r.2 = 41
        · rw [decide_eq_true h41] at hn41
          rw [if_pos h41] at gE
          rw [gE] at hc hk ⊢
          have hc : 20 * (r.2 + 1) + 9 ≤ c + 20 * p := hc
          have hk : 1000 * (r.2 + 1) + 90 ≤ k + 1000 * p := hk
          refine ev_aload_n dX6_enclosed_0 rfl ?_
          refine ev_getf dX6_enclosed_1 gf_X6_84_X6 HP rfl ?_
          refine ev_bipushZ dX6_enclosed_4 rfl ?_
          refine ev_icmp_neZ (tgt := 14) dX6_enclosed_6 (by decide) (by omega) (by omega) (fun c6 => ?_) (fun c6 => by omega)
          refine ev_aload_n dX6_enclosed_14 rfl ?_
          refine ev_bipushZ dX6_enclosed_15 rfl ?_
          refine ev_bipushZ dX6_enclosed_17 rfl ?_
          refine ev_callVR dX6_enclosed_19 cv_X6_72_X6 ce_X6_take L0.1 rfl rfl rfl (k_takeT (lo := 40) (hi := 40) hG L0.1 L0.2.1 hu9 (by omega) (by omega) (by omega) hB hn40) (by omega) (by omega) (by omega) (Nat.le_of_ble_eq_true rfl) (fun vL1 hL1 PL1 => ?_)
          obtain ⟨uL1, huL1, hrL1, rfl, HPL1, frL1⟩ := PL1
          have L1 := L0.take HPL1 frL1
          refine ev_istore_n dX6_enclosed_22 (by decide) rfl ?_
          dsimp only [List.set]
          refine ev_aload_n dX6_enclosed_23 rfl ?_
          refine ev_dup dX6_enclosed_24 rfl ?_
          refine ev_getf dX6_enclosed_25 gf_X6_84_X6 L1.1 rfl ?_
          refine ev_iconstZ dX6_enclosed_28 ?_
          refine ev_iaddZ dX6_enclosed_29 ?_
          refine ev_putC [.ref tb, vz (((p + 1 : Nat)) : Int), vz (((ne : Nat) : Int) + 1)] dX6_enclosed_30 gf_X6_84_X6 L1.1 hB (Or.inl rfl) rfl rfl (Nat.le_of_ble_eq_true rfl) rfl (fun h2 hp2 f2 => ?_)
          have L2 : PsS g I h ps tb tv cap (ne + 1) t I (p + 1) h2 := L1.take (ne' := ne + 1) (show ParC h2 ps tb (p + 1) (ne + 1) from hp2) ((Fr.refl (g := g) hL1 [ps]).write (Or.inl ⟨_, hp2⟩) f2 hB (List.mem_singleton_self _))
          refine ev_aload_n dX6_enclosed_33 rfl ?_
          have hx2 := IH I h2 ps tb tv cap (d - 1) (20 * r.2 + 18 - 20 * (p + 1)) (1000 * r.2 + 560 - 1000 * (p + 1)) (K0.fr L2.2.2.2.1) hB L2.2.2.1.2.1 hIp L2.1 L2.2.1 (by omega) (by omega) (by omega) (by omega) (by rw [hX, hX9]; omega) (by rw [hX, hX9]; omega)
          rw [hX, hx] at hx2
          refine ev_callV dX6_enclosed_34 cv_X6_87_X6 ce_X6_series L2.1 rfl rfl rfl hx2 (by omega) (by omega) (by omega) (Nat.le_of_ble_eq_true rfl) (fun v h3 q => ?_) (fun E q9 h3 r => by obtain ⟨a9, n9, J9, e9, -⟩ := r; cases e9)
          obtain ⟨a, n, J, e9, GJ, NJ, PJ, FJ⟩ := q
          cases e9
          have L3 : PsS g I h ps tb tv cap (ne + 1) t J r.2 h3 := L2.part GJ PJ FJ
          refine ev_astore_n dX6_enclosed_37 (by decide) rfl ?_
          dsimp only [List.set]
          refine ev_aload_n dX6_enclosed_38 rfl ?_
          refine ev_bipushZ dX6_enclosed_39 rfl ?_
          refine ev_bipushZ dX6_enclosed_41 rfl ?_
          refine ev_callVR dX6_enclosed_43 cv_X6_72_X6 ce_X6_take L3.1 rfl rfl rfl (k_takeT (lo := 41) (hi := 41) hG L3.1 L3.2.1 hu9 (by omega) (by omega) (by omega) hB hn41) (by omega) (by omega) (by omega) (Nat.le_of_ble_eq_true rfl) (fun vL4 hL4 PL4 => ?_)
          obtain ⟨uL4, huL4, hrL4, rfl, HPL4, frL4⟩ := PL4
          have L4 := L3.take HPL4 frL4
          refine ev_istore_n dX6_enclosed_46 (by decide) rfl ?_
          dsimp only [List.set]
          refine ev_aload_n dX6_enclosed_47 rfl ?_
          refine ev_astore dX6_enclosed_48 (by decide) rfl ?_
          dsimp only [List.set]
          refine ev_aload_n dX6_enclosed_50 rfl ?_
          refine ev_dup dX6_enclosed_51 rfl ?_
          refine ev_getf dX6_enclosed_52 gf_X6_84_X6 L4.1 rfl ?_
          refine ev_iconstZ dX6_enclosed_55 ?_
          refine ev_isubZ dX6_enclosed_56 ?_
          refine ev_putC [.ref tb, vz (((r.2 + 1 : Nat)) : Int), vz ((((ne + 1 : Nat)) : Int) - 1)] dX6_enclosed_57 gf_X6_84_X6 L4.1 hB (Or.inl rfl) rfl rfl (Nat.le_of_ble_eq_true rfl) rfl (fun h5 hp5 f5 => ?_)
          have hP5 : ParC h5 ps tb (r.2 + 1) ne := by rw [show (((ne + 1 : Nat)) : Int) - 1 = ((ne : Nat) : Int) by omega] at hp5; exact hp5
          have L5 : PsS g I h ps tb tv cap ne t J (r.2 + 1) h5 := L4.take hP5 ((Fr.refl (g := g) hL4 [ps]).write (Or.inl ⟨_, hp5⟩) f5 hB (List.mem_singleton_self _))
          refine ev_aload dX6_enclosed_60 rfl ?_
          refine ev_areturn dX6_enclosed_62 rfl (Or.inl ⟨_, rfl⟩) (Or.inr ⟨_, rfl⟩) ?_
          refine ⟨a, n, J, rfl, L5.2.2.1, ?_, L5.1, L5.2.2.2.1⟩
          show NodeAt J n a (tidy ([serR r.1].flatten))
          rw [List.flatten_cons, List.flatten_nil, List.append_nil]
          exact NJ
        · rw [decide_eq_false h41] at hn41
          rw [if_neg h41] at gE
          rw [gE] at hc hk ⊢
          have hc : 20 * r.2 + 9 ≤ c + 20 * p := hc
          have hk : 1000 * r.2 + 90 ≤ k + 1000 * p := hk
          show Ev g mX6_enclosed d c k (synE g h ps tb ne r.2) 0 _ _ _
          refine ev_aload_n dX6_enclosed_0 rfl ?_
          refine ev_getf dX6_enclosed_1 gf_X6_84_X6 HP rfl ?_
          refine ev_bipushZ dX6_enclosed_4 rfl ?_
          refine ev_icmp_neZ (tgt := 14) dX6_enclosed_6 (by decide) (by omega) (by omega) (fun c6 => ?_) (fun c6 => by omega)
          refine ev_aload_n dX6_enclosed_14 rfl ?_
          refine ev_bipushZ dX6_enclosed_15 rfl ?_
          refine ev_bipushZ dX6_enclosed_17 rfl ?_
          refine ev_callVR dX6_enclosed_19 cv_X6_72_X6 ce_X6_take L0.1 rfl rfl rfl (k_takeT (lo := 40) (hi := 40) hG L0.1 L0.2.1 hu9 (by omega) (by omega) (by omega) hB hn40) (by omega) (by omega) (by omega) (Nat.le_of_ble_eq_true rfl) (fun vL1 hL1 PL1 => ?_)
          obtain ⟨uL1, huL1, hrL1, rfl, HPL1, frL1⟩ := PL1
          have L1 := L0.take HPL1 frL1
          refine ev_istore_n dX6_enclosed_22 (by decide) rfl ?_
          dsimp only [List.set]
          refine ev_aload_n dX6_enclosed_23 rfl ?_
          refine ev_dup dX6_enclosed_24 rfl ?_
          refine ev_getf dX6_enclosed_25 gf_X6_84_X6 L1.1 rfl ?_
          refine ev_iconstZ dX6_enclosed_28 ?_
          refine ev_iaddZ dX6_enclosed_29 ?_
          refine ev_putC [.ref tb, vz (((p + 1 : Nat)) : Int), vz (((ne : Nat) : Int) + 1)] dX6_enclosed_30 gf_X6_84_X6 L1.1 hB (Or.inl rfl) rfl rfl (Nat.le_of_ble_eq_true rfl) rfl (fun h2 hp2 f2 => ?_)
          have L2 : PsS g I h ps tb tv cap (ne + 1) t I (p + 1) h2 := L1.take (ne' := ne + 1) (show ParC h2 ps tb (p + 1) (ne + 1) from hp2) ((Fr.refl (g := g) hL1 [ps]).write (Or.inl ⟨_, hp2⟩) f2 hB (List.mem_singleton_self _))
          refine ev_aload_n dX6_enclosed_33 rfl ?_
          have hx2 := IH I h2 ps tb tv cap (d - 1) (20 * r.2 + 18 - 20 * (p + 1)) (1000 * r.2 + 560 - 1000 * (p + 1)) (K0.fr L2.2.2.2.1) hB L2.2.2.1.2.1 hIp L2.1 L2.2.1 (by omega) (by omega) (by omega) (by omega) (by rw [hX, hX9]; omega) (by rw [hX, hX9]; omega)
          rw [hX, hx] at hx2
          refine ev_callV dX6_enclosed_34 cv_X6_87_X6 ce_X6_series L2.1 rfl rfl rfl hx2 (by omega) (by omega) (by omega) (Nat.le_of_ble_eq_true rfl) (fun v h3 q => ?_) (fun E q9 h3 r => by obtain ⟨a9, n9, J9, e9, -⟩ := r; cases e9)
          obtain ⟨a, n, J, e9, GJ, NJ, PJ, FJ⟩ := q
          cases e9
          have L3 : PsS g I h ps tb tv cap (ne + 1) t J r.2 h3 := L2.part GJ PJ FJ
          refine ev_astore_n dX6_enclosed_37 (by decide) rfl ?_
          dsimp only [List.set]
          refine ev_aload_n dX6_enclosed_38 rfl ?_
          refine ev_bipushZ dX6_enclosed_39 rfl ?_
          refine ev_bipushZ dX6_enclosed_41 rfl ?_
          refine ev_callV dX6_enclosed_43 cv_X6_72_X6 ce_X6_take L3.1 rfl rfl rfl (k_takeF (lo := 41) (hi := 41) hG L3.1 L3.2.1 hu9 (by omega) (by omega) (by omega) hB hn41) (by omega) (by omega) (by omega) (Nat.le_of_ble_eq_true rfl) (fun v h4 q => ?_) (fun E q h4 r => ?_)
          · obtain ⟨q9, e9, -⟩ := q; cases e9
          · obtain ⟨q8, e9, z9, x9, f9⟩ := r
            cases e9
            exact evx_any [] ⟨33, 50, 63, 0⟩ [⟨63, 65, 63, 0⟩] rfl (fun z hz => by cases hz) rfl rfl (enc_fin hB (f9.keep L3.1 (fun q => by cases q)) x9 (L3.2.2.2.1.fresh z9) (L3.2.2.2.1.call f9 nil_in))
    · rw [decide_eq_false h40] at hn40
      rw [if_neg (fun q => h40 q.1)] at gO
      rw [gO] at hc hk ⊢
      have hc : 20 * p + 9 ≤ c + 20 * p := hc
      have hk : 1000 * p + 90 ≤ k + 1000 * p := hk
      refine ev_aload_n dX6_enclosed_0 rfl ?_
      refine ev_getf dX6_enclosed_1 gf_X6_84_X6 HP rfl ?_
      refine ev_bipushZ dX6_enclosed_4 rfl ?_
      refine ev_icmp_neZ (tgt := 14) dX6_enclosed_6 (by decide) (by omega) (by omega) (fun c6 => ?_) (fun c6 => by omega)
      refine ev_aload_n dX6_enclosed_14 rfl ?_
      refine ev_bipushZ dX6_enclosed_15 rfl ?_
      refine ev_bipushZ dX6_enclosed_17 rfl ?_
      refine ev_callV dX6_enclosed_19 cv_X6_72_X6 ce_X6_take L0.1 rfl rfl rfl (k_takeF (lo := 40) (hi := 40) hG L0.1 L0.2.1 hu9 (by omega) (by omega) (by omega) hB hn40) (by omega) (by omega) (by omega) (Nat.le_of_ble_eq_true rfl) (fun v h2 q => ?_) (fun E q h2 r => ?_)
      · obtain ⟨q9, e9, -⟩ := q; cases e9
      · exact evx_out rfl (L0.err r)
end V5S

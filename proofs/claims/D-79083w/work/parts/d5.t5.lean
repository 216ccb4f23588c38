/-! THE COMPONENT: the inspector (printed by gen) -/
section T5S
variable {g : GB} {M : MI} {d c k : Nat} {h : HM}
/-- the inspector's cells -/
def InA (h : HM) (o pl ro co rb cb a : Nat) (R C RB CB : Nat → Int) : Prop := h o = some (.inr (15, [.ref pl, .ref ro, .ref co, .ref rb, .ref cb, .ref a])) ∧ h ro = some (.inl (0, (8, .inl (fun j => zI (R j))))) ∧ h co = some (.inl (0, (8, .inl (fun j => zI (C j))))) ∧ h rb = some (.inl (0, (8, .inl (fun j => zI (RB j))))) ∧ h cb = some (.inl (0, (8, .inl (fun j => zI (CB j)))))
/-- they are apart, high, and new since h0 -/
def InP (g : GB) (h0 : HM) (o pl ro co rb cb : Nat) : Prop := (ro ≠ co ∧ ro ≠ rb ∧ ro ≠ cb ∧ co ≠ rb ∧ co ≠ cb ∧ rb ≠ cb) ∧ (gB g ≤ ro ∧ gB g ≤ co ∧ gB g ≤ rb ∧ gB g ≤ cb) ∧ ∀ x ∈ [o, pl, ro, co, rb, cb], h0 x = none
/-- a problem's cell -/
def prC (h : HM) (x : Nat) (y : Pr) : Prop := ∃ A : Nat → Int, h x = some (.inl (0, (4, .inl (fun j => zI (A j))))) ∧ A 0 = (y.1 : Int) ∧ A 1 = (y.2.1 : Int) ∧ A 2 = (y.2.2.1 : Int) ∧ A 3 = y.2.2.2
/-- the list of problems; none of them is one of X -/
def PrH (g : GB) (h0 h : HM) (pl : Nat) (X : List Nat) (L : List Pr) : Prop := ∃ (v : Nat) (rs : List Nat), ALh g h pl v (capL L.length) ((L.length : Nat) : Int) rs ∧ rs.length = L.length ∧ (∀ (i x : Nat) (y : Pr), rs[i]? = some x → L[i]? = some y → prC h x y) ∧ (∀ x ∈ rs, x ∉ X ∧ h0 x = none) ∧ (v < gB g ∨ h0 v = none)
theorem InA.fr {h h' : HM} {o pl ro co rb cb a : Nat} {R C RB CB : Nat → Int} {S : List Nat} (K : InA h o pl ro co rb cb a R C RB CB) (F : Fr g h h' S) (hS : o ∉ S ∧ ro ∉ S ∧ co ∉ S ∧ rb ∉ S ∧ cb ∉ S) : InA h' o pl ro co rb cb a R C RB CB :=
  ⟨F.keep K.1 hS.1, F.keep K.2.1 hS.2.1, F.keep K.2.2.1 hS.2.2.1, F.keep K.2.2.2.1 hS.2.2.2.1, F.keep K.2.2.2.2 hS.2.2.2.2⟩
/-- behind writes into X -/
theorem PrH.fr {h0 h h' : HM} {pl : Nat} {X : List Nat} {L : List Pr} (K : PrH g h0 h pl X L) (F : Fr g h h' X) (hX : ∀ x ∈ X, ∃ (n : Nat) (A : Nat → Int), h x = some (.inl (0, (n, .inl (fun j => zI (A j)))))) : PrH g h0 h' pl X L := by
  obtain ⟨v, rs, k1, k2, k3, k4, k5⟩ := K
  obtain ⟨f, hv, -⟩ := k1.2.2.1
  refine ⟨v, rs, k1.fr F (fun q => ?_) (fun _ q => ?_), k2, fun i x y h1 h2 => ?_, k4, k5⟩
  · obtain ⟨n, A, e⟩ := hX _ q
    rw [k1.1] at e; simp at e
  · obtain ⟨n, A, e⟩ := hX _ q
    rw [hv] at e; simp at e
  · obtain ⟨A, e, r⟩ := k3 i x y h1 h2
    exact ⟨A, F.keep e (k4 x (List.mem_of_getElem? h1)).1, r⟩
set_option maxRecDepth 100000 in
set_option maxHeartbeats 4000000 in
theorem k_isTog {o pl ro co rb cb a : Nat} {R C RB CB : Nat → Int} (K : InA h o pl ro co rb cb a R C RB CB) {x y : Nat} (hx : x < 8) (hy : y < 8) (hr : ∀ e : Nat, e < 8 → inR (R e) ∧ inR (C e) ∧ inR (RB e) ∧ inR (CB e)) : Kc g mX19_isTogether d (0) (0) [.ref o, vz ((x : Nat) : Int), vz ((y : Nat) : Int)] h (sR (some (vz (bI (decide (R x = R y ∧ C x = C y))))) h) := by
  refine Kc.of (ls := [some (.ref o), some (vz ((x : Nat) : Int)), some (vz ((y : Nat) : Int))]) (by decide +kernel) (Nat.le_of_ble_eq_true rfl) rfl ?_
  obtain ⟨i1, i2, i3, i4, i5⟩ := id K
  have rx := hr x hx
  have ry := hr y hy
  refine ev_aload_n dX19_isTogether_0 rfl ?_
  refine ev_getf dX19_isTogether_1 gf_X19_22_X19 i1 rfl ?_
  refine ev_iload_n dX19_isTogether_4 rfl ?_
  refine ev_ialdY dX19_isTogether_5 i2 (by omega) ?_
  rw [Int.toNat_natCast]
  refine ev_aload_n dX19_isTogether_6 rfl ?_
  refine ev_getf dX19_isTogether_7 gf_X19_22_X19 i1 rfl ?_
  refine ev_iload_n dX19_isTogether_10 rfl ?_
  refine ev_ialdY dX19_isTogether_11 i2 (by omega) ?_
  rw [Int.toNat_natCast]
  refine ev_icmp_neZ (tgt := 34) dX19_isTogether_12 (by decide) (by omega) (by omega) (fun c12 => ?_) (fun c12 => ?_)
  · refine ev_iconstZ dX19_isTogether_34 ?_
    refine ev_zreturn dX19_isTogether_35 rfl rfl ?_
    exact ⟨congrArg Sum.inl (congrArg some (by rw [bI_dec]; first | rw [if_pos (by omega)] | rw [if_neg (by omega)])), rfl⟩
  · refine ev_aload_n dX19_isTogether_15 rfl ?_
    refine ev_getf dX19_isTogether_16 gf_X19_26_X19 i1 rfl ?_
    refine ev_iload_n dX19_isTogether_19 rfl ?_
    refine ev_ialdY dX19_isTogether_20 i3 (by omega) ?_
    rw [Int.toNat_natCast]
    refine ev_aload_n dX19_isTogether_21 rfl ?_
    refine ev_getf dX19_isTogether_22 gf_X19_26_X19 i1 rfl ?_
    refine ev_iload_n dX19_isTogether_25 rfl ?_
    refine ev_ialdY dX19_isTogether_26 i3 (by omega) ?_
    rw [Int.toNat_natCast]
    refine ev_icmp_neZ (tgt := 34) dX19_isTogether_27 (by decide) (by omega) (by omega) (fun c27 => ?_) (fun c27 => ?_)
    · refine ev_iconstZ dX19_isTogether_34 ?_
      refine ev_zreturn dX19_isTogether_35 rfl rfl ?_
      exact ⟨congrArg Sum.inl (congrArg some (by rw [bI_dec]; first | rw [if_pos (by omega)] | rw [if_neg (by omega)])), rfl⟩
    · refine ev_iconstZ dX19_isTogether_30 ?_
      refine ev_goto (tgt := 35) dX19_isTogether_31 (by decide) ?_
      refine ev_zreturn dX19_isTogether_35 rfl rfl ?_
      exact ⟨congrArg Sum.inl (congrArg some (by rw [bI_dec]; first | rw [if_pos (by omega)] | rw [if_neg (by omega)])), rfl⟩
set_option maxRecDepth 100000 in
set_option maxHeartbeats 4000000 in
theorem k_isWhr {o pl ro co rb cb a : Nat} {R C RB CB : Nat → Int} (K : InA h o pl ro co rb cb a R C RB CB) {x y : Nat} (hx : x < 8) (hy : y < 8) (hr : ∀ e : Nat, e < 8 → inR (R e) ∧ inR (C e) ∧ inR (RB e) ∧ inR (CB e)) : Kc g mX19_isWhere d (0) (0) [.ref o, vz ((x : Nat) : Int), vz ((y : Nat) : Int)] h (sR (some (vz (bI (decide (R x = RB y ∧ C x = CB y))))) h) := by
  refine Kc.of (ls := [some (.ref o), some (vz ((x : Nat) : Int)), some (vz ((y : Nat) : Int))]) (by decide +kernel) (Nat.le_of_ble_eq_true rfl) rfl ?_
  obtain ⟨i1, i2, i3, i4, i5⟩ := id K
  have rx := hr x hx
  have ry := hr y hy
  refine ev_aload_n dX19_isWhere_0 rfl ?_
  refine ev_getf dX19_isWhere_1 gf_X19_22_X19 i1 rfl ?_
  refine ev_iload_n dX19_isWhere_4 rfl ?_
  refine ev_ialdY dX19_isWhere_5 i2 (by omega) ?_
  rw [Int.toNat_natCast]
  refine ev_aload_n dX19_isWhere_6 rfl ?_
  refine ev_getf dX19_isWhere_7 gf_X19_29_X19 i1 rfl ?_
  refine ev_iload_n dX19_isWhere_10 rfl ?_
  refine ev_ialdY dX19_isWhere_11 i4 (by omega) ?_
  rw [Int.toNat_natCast]
  refine ev_icmp_neZ (tgt := 34) dX19_isWhere_12 (by decide) (by omega) (by omega) (fun c12 => ?_) (fun c12 => ?_)
  · refine ev_iconstZ dX19_isWhere_34 ?_
    refine ev_zreturn dX19_isWhere_35 rfl rfl ?_
    exact ⟨congrArg Sum.inl (congrArg some (by rw [bI_dec]; first | rw [if_pos (by omega)] | rw [if_neg (by omega)])), rfl⟩
  · refine ev_aload_n dX19_isWhere_15 rfl ?_
    refine ev_getf dX19_isWhere_16 gf_X19_26_X19 i1 rfl ?_
    refine ev_iload_n dX19_isWhere_19 rfl ?_
    refine ev_ialdY dX19_isWhere_20 i3 (by omega) ?_
    rw [Int.toNat_natCast]
    refine ev_aload_n dX19_isWhere_21 rfl ?_
    refine ev_getf dX19_isWhere_22 gf_X19_32_X19 i1 rfl ?_
    refine ev_iload_n dX19_isWhere_25 rfl ?_
    refine ev_ialdY dX19_isWhere_26 i5 (by omega) ?_
    rw [Int.toNat_natCast]
    refine ev_icmp_neZ (tgt := 34) dX19_isWhere_27 (by decide) (by omega) (by omega) (fun c27 => ?_) (fun c27 => ?_)
    · refine ev_iconstZ dX19_isWhere_34 ?_
      refine ev_zreturn dX19_isWhere_35 rfl rfl ?_
      exact ⟨congrArg Sum.inl (congrArg some (by rw [bI_dec]; first | rw [if_pos (by omega)] | rw [if_neg (by omega)])), rfl⟩
    · refine ev_iconstZ dX19_isWhere_30 ?_
      refine ev_goto (tgt := 35) dX19_isWhere_31 (by decide) ?_
      refine ev_zreturn dX19_isWhere_35 rfl rfl ?_
      exact ⟨congrArg Sum.inl (congrArg some (by rw [bI_dec]; first | rw [if_pos (by omega)] | rw [if_neg (by omega)])), rfl⟩
set_option maxRecDepth 100000 in
set_option maxHeartbeats 4000000 in
theorem k_hvEx {o pl ro co rb cb a : Nat} {R C RB CB : Nat → Int} (K : InA h o pl ro co rb cb a R C RB CB) {x y : Nat} (hx : x < 8) (hy : y < 8) (hr : ∀ e : Nat, e < 8 → inR (R e) ∧ inR (C e) ∧ inR (RB e) ∧ inR (CB e)) : Kc g mX19_haveExchanged (d + 1) (0) (0) [.ref o, vz ((x : Nat) : Int), vz ((y : Nat) : Int)] h (sR (some (vz (bI (decide ((R x = RB y ∧ C x = CB y) ∧ (R y = RB x ∧ C y = CB x) ∧ ¬ (R x = R y ∧ C x = C y))))) ) h) := by
  refine Kc.of (ls := [some (.ref o), some (vz ((x : Nat) : Int)), some (vz ((y : Nat) : Int))]) (by decide +kernel) (Nat.le_of_ble_eq_true rfl) rfl ?_
  obtain ⟨i1, i2, i3, i4, i5⟩ := id K
  refine ev_aload_n dX19_haveExchanged_0 rfl ?_
  refine ev_iload_n dX19_haveExchanged_1 rfl ?_
  refine ev_iload_n dX19_haveExchanged_2 rfl ?_
  refine ev_callVE dX19_haveExchanged_3 cv_X19_52_X19 ce_X19_isWhere i1 rfl rfl rfl (k_isWhr (d := 0) K hx hy hr) (by omega) (Nat.le_of_ble_eq_true rfl) ?_
  refine ev_if_eqB (tgt := 31) dX19_haveExchanged_6 (by decide) (fun c6 => ?_) (fun c6 => ?_)
  · have d6 := of_decide_eq_false c6
    refine ev_iconstZ dX19_haveExchanged_31 ?_
    refine ev_zreturn dX19_haveExchanged_32 rfl rfl ?_
    exact ⟨congrArg Sum.inl (congrArg some (by rw [bI_dec]; first | rw [if_pos (by omega)] | rw [if_neg (by omega)])), rfl⟩
  · have d6 := of_decide_eq_true c6
    refine ev_aload_n dX19_haveExchanged_9 rfl ?_
    refine ev_iload_n dX19_haveExchanged_10 rfl ?_
    refine ev_iload_n dX19_haveExchanged_11 rfl ?_
    refine ev_callVE dX19_haveExchanged_12 cv_X19_52_X19 ce_X19_isWhere i1 rfl rfl rfl (k_isWhr (d := 0) K hy hx hr) (by omega) (Nat.le_of_ble_eq_true rfl) ?_
    refine ev_if_eqB (tgt := 31) dX19_haveExchanged_15 (by decide) (fun c15 => ?_) (fun c15 => ?_)
    · have d15 := of_decide_eq_false c15
      refine ev_iconstZ dX19_haveExchanged_31 ?_
      refine ev_zreturn dX19_haveExchanged_32 rfl rfl ?_
      exact ⟨congrArg Sum.inl (congrArg some (by rw [bI_dec]; first | rw [if_pos (by omega)] | rw [if_neg (by omega)])), rfl⟩
    · have d15 := of_decide_eq_true c15
      refine ev_aload_n dX19_haveExchanged_18 rfl ?_
      refine ev_iload_n dX19_haveExchanged_19 rfl ?_
      refine ev_iload_n dX19_haveExchanged_20 rfl ?_
      refine ev_callVE dX19_haveExchanged_21 cv_X19_56_X19 ce_X19_isTogether i1 rfl rfl rfl (k_isTog (d := 0) K hx hy hr) (by omega) (Nat.le_of_ble_eq_true rfl) ?_
      refine ev_if_neB (tgt := 31) dX19_haveExchanged_24 (by decide) (fun c24 => ?_) (fun c24 => ?_)
      · have d24 := of_decide_eq_true c24
        refine ev_iconstZ dX19_haveExchanged_31 ?_
        refine ev_zreturn dX19_haveExchanged_32 rfl rfl ?_
        exact ⟨congrArg Sum.inl (congrArg some (by rw [bI_dec]; first | rw [if_pos (by omega)] | rw [if_neg (by omega)])), rfl⟩
      · have d24 := of_decide_eq_false c24
        refine ev_iconstZ dX19_haveExchanged_27 ?_
        refine ev_goto (tgt := 32) dX19_haveExchanged_28 (by decide) ?_
        refine ev_zreturn dX19_haveExchanged_32 rfl rfl ?_
        exact ⟨congrArg Sum.inl (congrArg some (by rw [bI_dec]; first | rw [if_pos (by omega)] | rw [if_neg (by omega)])), rfl⟩
set_option maxRecDepth 100000 in
set_option maxHeartbeats 4000000 in
theorem k_isOff {o pl ro co rb cb a : Nat} {R C RB CB : Nat → Int} (K : InA h o pl ro co rb cb a R C RB CB) {I : HM} {st fo x : Nat} {D : Dn} (H : DnC g I h a st fo D) (hx : x < 8) (hr : ∀ e : Nat, e < 8 → inR (R e) ∧ inR (C e) ∧ inR (RB e) ∧ inR (CB e)) (hD : D.1.1 ≤ 9 ∧ D.1.2 ≤ 9) : Kc g mX19_isOff (d + 1) (0) (0) [.ref o, vz ((x : Nat) : Int)] h (sR (some (vz (bI (decide (¬ ((0 ≤ R x ∧ R x ≤ ((D.1.2 : Nat) : Int) - 1) ∧ (0 ≤ C x ∧ C x ≤ ((D.1.1 : Nat) : Int) - 1)))))) ) h) := by
  refine Kc.of (ls := [some (.ref o), some (vz ((x : Nat) : Int))]) (by decide +kernel) (Nat.le_of_ble_eq_true rfl) rfl ?_
  obtain ⟨i1, i2, i3, i4, i5⟩ := id K
  obtain ⟨A, B, pv, sv, K, hA, hB9, hV⟩ := id H
  obtain ⟨k1, k2, k3, k4, k5, k6, k7, k8⟩ := id K
  have rx := hr x hx
  refine ev_aload_n dX19_isOff_0 rfl ?_
  refine ev_getf dX19_isOff_1 gf_X19_22_X19 i1 rfl ?_
  refine ev_iload_n dX19_isOff_4 rfl ?_
  refine ev_ialdY dX19_isOff_5 i2 (by omega) ?_
  rw [Int.toNat_natCast]
  refine ev_i2l dX19_isOff_6 ?_
  refine ev_lconst0 dX19_isOff_7 ?_
  refine ev_aload_n dX19_isOff_8 rfl ?_
  refine ev_getf dX19_isOff_9 gf_X19_3_X19 i1 rfl ?_
  refine ev_getf dX19_isOff_12 gf_X19_39_X2 k1 rfl ?_
  refine ev_iconstZ dX19_isOff_15 ?_
  refine ev_isubZ dX19_isOff_16 ?_
  refine ev_i2l dX19_isOff_17 ?_
  refine ev_callSE dX19_isOff_18 cs_X19_45 ce_X1_inRange rfl rfl (k_inRange (d := 0) (a := R x) (lo := 0) (hi := ((D.1.2 : Nat) : Int) - 1) (by omega)) (by omega) (Nat.le_of_ble_eq_true rfl) ?_
  refine ev_if_eqB (tgt := 48) dX19_isOff_21 (by decide) (fun c21 => ?_) (fun c21 => ?_)
  · have d21 := of_decide_eq_false c21
    refine ev_iconstZ dX19_isOff_48 ?_
    refine ev_goto (tgt := 53) dX19_isOff_49 (by decide) ?_
    refine ev_zreturn dX19_isOff_53 rfl rfl ?_
    exact ⟨congrArg Sum.inl (congrArg some (by rw [bI_dec]; first | rw [if_pos (by omega)] | rw [if_neg (by omega)])), rfl⟩
  · have d21 := of_decide_eq_true c21
    refine ev_aload_n dX19_isOff_24 rfl ?_
    refine ev_getf dX19_isOff_25 gf_X19_26_X19 i1 rfl ?_
    refine ev_iload_n dX19_isOff_28 rfl ?_
    refine ev_ialdY dX19_isOff_29 i3 (by omega) ?_
    rw [Int.toNat_natCast]
    refine ev_i2l dX19_isOff_30 ?_
    refine ev_lconst0 dX19_isOff_31 ?_
    refine ev_aload_n dX19_isOff_32 rfl ?_
    refine ev_getf dX19_isOff_33 gf_X19_3_X19 i1 rfl ?_
    refine ev_getf dX19_isOff_36 gf_X19_49_X2 k1 rfl ?_
    refine ev_iconstZ dX19_isOff_39 ?_
    refine ev_isubZ dX19_isOff_40 ?_
    refine ev_i2l dX19_isOff_41 ?_
    refine ev_callSE dX19_isOff_42 cs_X19_45 ce_X1_inRange rfl rfl (k_inRange (d := 0) (a := C x) (lo := 0) (hi := ((D.1.1 : Nat) : Int) - 1) (by omega)) (by omega) (Nat.le_of_ble_eq_true rfl) ?_
    refine ev_if_neB (tgt := 52) dX19_isOff_45 (by decide) (fun c45 => ?_) (fun c45 => ?_)
    · have d45 := of_decide_eq_true c45
      refine ev_iconstZ dX19_isOff_52 ?_
      refine ev_zreturn dX19_isOff_53 rfl rfl ?_
      exact ⟨congrArg Sum.inl (congrArg some (by rw [bI_dec]; first | rw [if_pos (by omega)] | rw [if_neg (by omega)])), rfl⟩
    · have d45 := of_decide_eq_false c45
      refine ev_iconstZ dX19_isOff_48 ?_
      refine ev_goto (tgt := 53) dX19_isOff_49 (by decide) ?_
      refine ev_zreturn dX19_isOff_53 rfl rfl ?_
      exact ⟨congrArg Sum.inl (congrArg some (by rw [bI_dec]; first | rw [if_pos (by omega)] | rw [if_neg (by omega)])), rfl⟩
set_option maxRecDepth 100000 in
set_option maxHeartbeats 4000000 in
theorem k_tell {o pl ro co rb cb a : Nat} {R C RB CB : Nat → Int} (K : InA h o pl ro co rb cb a R C RB CB) {h0 : HM} {X : List Nat} {L : List Pr} {y : Pr} (hG : GKx g) (hKC : KC g h) (hP : InP g h0 o pl ro co rb cb) (HL : PrH g h0 h pl X L) (FH : Fr g h0 h []) (hXs : ∀ x ∈ X, h x ≠ none) (hL : L.length < 90000) (hc : 2 ≤ c) (hk : 4 + (addK (L.length + 1) - addK L.length) ≤ k) : Kc g mX19_tell 7 (c) (k) [.ref o, vz ((y.1 : Nat) : Int), vz ((y.2.1 : Nat) : Int), vz ((y.2.2.1 : Nat) : Int), vz (y.2.2.2)] h (rR (fun v h' => v = none ∧ InA h' o pl ro co rb cb a R C RB CB ∧ PrH g h0 h' pl X (L ++ [y]) ∧ Fr g h0 h' [])) := by
  refine Kc.of (ls := [some (.ref o), some (vz ((y.1 : Nat) : Int)), some (vz ((y.2.1 : Nat) : Int)), some (vz ((y.2.2.1 : Nat) : Int)), some (vz (y.2.2.2)), none]) (by decide +kernel) (Nat.le_of_ble_eq_true rfl) rfl ?_
  obtain ⟨i1, i2, i3, i4, i5⟩ := id K
  obtain ⟨v, rs, k1, k2, k3, k4, k5⟩ := id HL
  refine ev_aload_n dX19_tell_0 rfl ?_
  refine ev_getf dX19_tell_1 gf_X19_18_X19 i1 rfl ?_
  refine ev_iconstZ dX19_tell_4 ?_
  refine ev_newA_int (N := 4) (c' := c - 1) (k' := k - 4) dX19_tell_5 (by omega) (by omega) (by omega) (by omega) (by omega) (fun q1 hp_2 e3 B4 Hq1_5 f6 => ?_)
  have i1_7 := (f6 _ (ne_no i1 e3)).trans i1
  have z8 := ((Fr.refl (g := g) _ [])).fresh e3
  have F9 := ((Fr.refl (g := g) _ [])).alloc (Or.inr ⟨_, Hq1_5, Nat.le_of_ble_eq_true rfl⟩) f6 e3
  have hzq := z8
  refine ev_dup dX19_tell_7 rfl ?_
  refine ev_iconstZ dX19_tell_8 ?_
  refine ev_iload_n dX19_tell_9 rfl ?_
  refine ev_iastY dX19_tell_10 Hq1_5 B4 (by omega) trivial (fun hp_10 Hq1_11 f12 => ?_)
  have i1_13 := (f12 _ (ne_no i1 e3)).trans i1_7
  have F14 := (F9).writeN (Or.inr ⟨_, Hq1_11, Nat.le_of_ble_eq_true rfl⟩) f12 z8
  refine ev_dup dX19_tell_11 rfl ?_
  refine ev_iconstZ dX19_tell_12 ?_
  refine ev_iload_n dX19_tell_13 rfl ?_
  refine ev_iastY dX19_tell_14 Hq1_11 B4 (by omega) trivial (fun hp_15 Hq1_16 f17 => ?_)
  have i1_18 := (f17 _ (ne_no i1 e3)).trans i1_13
  have F19 := (F14).writeN (Or.inr ⟨_, Hq1_16, Nat.le_of_ble_eq_true rfl⟩) f17 z8
  refine ev_dup dX19_tell_15 rfl ?_
  refine ev_iconstZ dX19_tell_16 ?_
  refine ev_iload_n dX19_tell_17 rfl ?_
  refine ev_iastY dX19_tell_18 Hq1_16 B4 (by omega) trivial (fun hp_20 Hq1_21 f22 => ?_)
  have i1_23 := (f22 _ (ne_no i1 e3)).trans i1_18
  have F24 := (F19).writeN (Or.inr ⟨_, Hq1_21, Nat.le_of_ble_eq_true rfl⟩) f22 z8
  refine ev_dup dX19_tell_19 rfl ?_
  refine ev_iconstZ dX19_tell_20 ?_
  refine ev_iload dX19_tell_21 rfl ?_
  refine ev_iastY dX19_tell_23 Hq1_21 B4 (by omega) trivial (fun hp_25 Hq1_26 f27 => ?_)
  have i1_28 := (f27 _ (ne_no i1 e3)).trans i1_23
  have F29 := (F24).writeN (Or.inr ⟨_, Hq1_26, Nat.le_of_ble_eq_true rfl⟩) f27 z8
  have FQ := F29
  have AQ := k1.fr FQ (fun q => by cases q) (fun _ q => by cases q)
  have KQ := hKC.fr FQ
  have eL : rs.length = L.length := k2
  refine ev_callVR dX19_tell_24 cv_X19_35_J26 ce_J26_add AQ.1 rfl rfl rfl (al_addB (c := c - 1) (k := addK (L.length + 1) - addK L.length) hG KQ.1.1 AQ (by omega) (Or.inr ⟨_, Hq1_26, Nat.le_of_ble_eq_true rfl⟩) (fun e => ⟨by omega, by rw [eL] at e ⊢; show nxC _ _ ≤ (addK L.length + (if L.length = capL L.length then nxC (capL L.length) L.length else 0)) - addK L.length; rw [if_pos e]; omega⟩)) (by omega) (by omega) (by omega) (Nat.le_of_ble_eq_true rfl) (fun v9 h3 P9 => ?_)
  obtain ⟨rfl, v3, AL3, hv3, F3⟩ := P9
  have zq : h0 q1 = none := FH.fresh z8
  have FH2 := FH.call FQ nil_in
  have hzv : v < gB g ∨ h0 v = none := k5
  have hzp : h0 pl = none := hP.2.2 _ (by simp)
  have FH3 := FH2.call F3 (fun x hx => (List.mem_cons.mp hx).elim (fun e => Or.inr (Or.inl (by rw [e]; exact hzp))) (fun e => by rw [List.mem_singleton.mp e]; exact Or.inr (hzv.symm)))
  obtain ⟨f9, hvv, -⟩ := AQ.2.2.1
  have nn : ∀ (x t n : Nat) (A : Nat → Int), hp_25 x = some (.inl (t, (n, .inl (fun j => zI (A j))))) → x ∉ [pl, v] := fun x t n A e hx => (List.mem_cons.mp hx).elim (fun e2 => ne_of e AQ.1 (by simp) e2) (fun e2 => ne_of e hvv (by simp) (List.mem_singleton.mp e2))
  have KQ2 := K.fr FQ (by simp)
  have K3 := KQ2.fr F3 ⟨fun hx => (List.mem_cons.mp hx).elim (fun e2 => ne_of KQ2.1 AQ.1 (by simp) e2) (fun e2 => ne_of KQ2.1 hvv (by simp) (List.mem_singleton.mp e2)), nn _ _ _ _ KQ2.2.1, nn _ _ _ _ KQ2.2.2.1, nn _ _ _ _ KQ2.2.2.2.1, nn _ _ _ _ KQ2.2.2.2.2⟩
  have hq3 := F3.keep Hq1_26 (nn _ _ _ _ Hq1_26)
  refine ev_istore dX19_tell_27 (by decide) rfl ?_
  dsimp only [List.set]
  refine ev_return dX19_tell_29 rfl ?_
  have eC : capL (L ++ [y]).length = nxC (capL L.length) rs.length := by rw [List.length_append, eL]; rfl
  refine ⟨_, rfl, rfl, K3, ⟨v3, rs ++ [q1], ?_, by rw [List.length_append, List.length_append, eL]; rfl, fun i x y2 h1 h2 => ?_, fun x hx => ?_, ?_⟩, FH3⟩
  · rw [eC, List.length_append]; exact AL3
  · by_cases e : i < rs.length
    · rw [List.getElem?_append_left e] at h1
      rw [List.getElem?_append_left (by omega)] at h2
      obtain ⟨A, e1, r⟩ := k3 i x y2 h1 h2
      exact ⟨A, F3.keep (FQ.keep e1 (fun q => by cases q)) (nn _ _ _ _ (FQ.keep e1 (fun q => by cases q))), r⟩
    · have e2 : i = rs.length := by have := (List.getElem?_eq_some_iff.mp h1).1; rw [List.length_append, List.length_singleton] at this; omega
      subst e2
      rw [List.getElem?_append_right (Nat.le_refl _), Nat.sub_self] at h1
      rw [eL, List.getElem?_append_right (Nat.le_refl _), Nat.sub_self] at h2
      cases h1; cases h2
      exact ⟨_, hq3, rfl, rfl, rfl, rfl⟩
  · rcases List.mem_append.mp hx with e | e
    · exact k4 x e
    · rw [List.mem_singleton.mp e]
      refine ⟨fun hm => ?_, zq⟩
      have hz := z8
      have hs : ∀ x ∈ X, h x ≠ none := hXs
      exact absurd (hzq) (hs _ hm)
  · rcases hv3 with e | e
    · rw [e]; exact hzv
    · exact Or.inr (FH2.fresh e)
end T5S

/-! THE COMPONENT: the parser, small methods (printed by gen) -/
section U3S
variable {g : GB} {M : MI} {d c k : Nat} {h : HM}
/-- whether the sign at pos lies in a range -/
def nx (t : List Nat) (pos lo hi : Nat) : Bool := match t[pos]? with
  | some u => decide (lo ≤ u ∧ u ≤ hi)
  | none => false
theorem nx_some {t : List Nat} {pos lo hi u : Nat} (h : t[pos]? = some u) : nx t pos lo hi = decide (lo ≤ u ∧ u ≤ hi) := by unfold nx; rw [h]
theorem nx_none {t : List Nat} {pos lo hi : Nat} (h : t.length ≤ pos) : nx t pos lo hi = false := by unfold nx; rw [List.getElem?_eq_none h]
/-- the parser at pos -/
def ParC (h : HM) (ps tb pos ne : Nat) : Prop := h ps = some (.inr (5, [.ref tb, vz ((pos : Nat) : Int), vz ((ne : Nat) : Int)]))
/-- it is thrown: wrong at pos -/
def synQ (g : GB) (h : HM) (S : List Nat) (pos : Nat) : RS → HM → Prop := fun r h' => ∃ q : Nat, r = .inr ("DanceNotation$SyntaxException", q) ∧ h q = none ∧ h' q = some (.inr (6, [.null, .null, .null, .null, .null, vz 0, vz ((pos : Nat) : Int)])) ∧ Fr g h h' S
set_option maxRecDepth 100000 in
set_option maxHeartbeats 4000000 in
theorem k_isNext {ps tb tv cap pos ne : Nat} {t : List Nat} (hG : GKx g) (HP : ParC h ps tb pos ne) (HT : SBh g h tb tv cap t) (hu9 : ∀ u ∈ t, u < 128) (hl : t.length < 100000) (hpn : pos ≤ t.length) {lo hi : Nat} (hlh : lo < 200 ∧ hi < 200) : Kc g mX6_isNext (d + 5) (0) (0) [.ref ps, vz ((lo : Nat) : Int), vz ((hi : Nat) : Int)] h (sR (some (vz (bI (nx t pos lo hi)))) h) := by
  refine Kc.of (ls := [some (.ref ps), some (vz ((lo : Nat) : Int)), some (vz ((hi : Nat) : Int))]) (by decide +kernel) (Nat.le_of_ble_eq_true rfl) rfl ?_
  obtain ⟨TA, htb, -⟩ := id HT
  refine ev_aload_n dX6_isNext_0 rfl ?_
  refine ev_getf dX6_isNext_1 gf_X6_15_X6 HP rfl ?_
  refine ev_aload_n dX6_isNext_4 rfl ?_
  refine ev_getf dX6_isNext_5 gf_X6_9_X6 HP rfl ?_
  refine ev_callVE dX6_isNext_8 (cf_X6_19_J6 hG) ce_J6_length htb rfl rfl rfl (sb_length HT) (by omega) (Nat.le_of_ble_eq_true rfl) ?_
  refine ev_icmp_geZ (tgt := 44) dX6_isNext_13 (by decide) (by omega) (by omega) (fun c13 => ?_) (fun c13 => ?_)
  · have e9 := nx_none (lo := lo) (hi := hi) (show t.length ≤ pos by omega)
    rw [e9]
    refine ev_iconstZ dX6_isNext_44 ?_
    refine ev_zreturn dX6_isNext_45 rfl rfl ?_
    first | exact ⟨rfl, rfl⟩ | (refine ⟨congrArg Sum.inl (congrArg some ?_), rfl⟩; rw [bI_dec]; first | rw [if_pos (by omega)] | rw [if_neg (by omega)])
  · obtain ⟨u, hu⟩ : ∃ u, t[pos]? = some u := ⟨_, List.getElem?_eq_getElem (by omega)⟩
    have hu7 := hu9 u (List.mem_of_getElem? hu)
    rw [nx_some hu]
    refine ev_aload_n dX6_isNext_16 rfl ?_
    refine ev_getf dX6_isNext_17 gf_X6_9_X6 HP rfl ?_
    refine ev_aload_n dX6_isNext_20 rfl ?_
    refine ev_getf dX6_isNext_21 gf_X6_15_X6 HP rfl ?_
    refine ev_callVE dX6_isNext_24 (cf_X6_25_J6 hG) ce_J6_charAt htb rfl rfl rfl (sb_charAt HT hG (by omega) (by rw [Int.toNat_natCast]; exact hu)) (by omega) (Nat.le_of_ble_eq_true rfl) ?_
    refine ev_i2l dX6_isNext_29 ?_
    refine ev_iload_n dX6_isNext_30 rfl ?_
    refine ev_i2l dX6_isNext_31 ?_
    refine ev_iload_n dX6_isNext_32 rfl ?_
    refine ev_i2l dX6_isNext_33 ?_
    refine ev_callSE dX6_isNext_34 cs_X6_29 ce_X1_inRange rfl rfl (k_inRange (d := 0) (a := (u : Int)) (lo := (lo : Int)) (hi := (hi : Int)) (by omega)) (by omega) (Nat.le_of_ble_eq_true rfl) ?_
    refine ev_if_eqB (tgt := 44) dX6_isNext_37 (by decide) (fun c37 => ?_) (fun c37 => ?_)
    · have d37 := of_decide_eq_false c37
      refine ev_iconstZ dX6_isNext_44 ?_
      refine ev_zreturn dX6_isNext_45 rfl rfl ?_
      first | exact ⟨rfl, rfl⟩ | (refine ⟨congrArg Sum.inl (congrArg some ?_), rfl⟩; rw [bI_dec]; first | rw [if_pos (by omega)] | rw [if_neg (by omega)])
    · have d37 := of_decide_eq_true c37
      refine ev_iconstZ dX6_isNext_40 ?_
      refine ev_goto (tgt := 45) dX6_isNext_41 (by decide) ?_
      refine ev_zreturn dX6_isNext_45 rfl rfl ?_
      first | exact ⟨rfl, rfl⟩ | (refine ⟨congrArg Sum.inl (congrArg some ?_), rfl⟩; rw [bI_dec]; first | rw [if_pos (by omega)] | rw [if_neg (by omega)])
set_option maxRecDepth 100000 in
set_option maxHeartbeats 4000000 in
theorem k_isNext2 {ps tb tv cap pos ne : Nat} {t : List Nat} (hG : GKx g) (HP : ParC h ps tb pos ne) (HT : SBh g h tb tv cap t) (hu9 : ∀ u ∈ t, u < 128) (hl : t.length < 100000) (hpn : pos ≤ t.length) {lo : Nat} (hlh : lo < 200) : Kc g mX6_isNext_2 (d + 6) (0) (0) [.ref ps, vz ((lo : Nat) : Int)] h (sR (some (vz (bI (nx t pos lo lo)))) h) := by
  refine Kc.of (ls := [some (.ref ps), some (vz ((lo : Nat) : Int))]) (by decide +kernel) (Nat.le_of_ble_eq_true rfl) rfl ?_
  refine ev_aload_n dX6_isNext_2_0 rfl ?_
  refine ev_iload_n dX6_isNext_2_1 rfl ?_
  refine ev_iload_n dX6_isNext_2_2 rfl ?_
  refine ev_callVE dX6_isNext_2_3 cv_X6_33_X6 ce_X6_isNext HP rfl rfl rfl (k_isNext (d := 0) (lo := lo) (hi := lo) hG HP HT hu9 hl hpn (by omega)) (by omega) (Nat.le_of_ble_eq_true rfl) ?_
  refine ev_zreturn dX6_isNext_2_6 rfl (by cases nx t pos lo lo <;> rfl) ?_
  exact ⟨rfl, rfl⟩
set_option maxRecDepth 100000 in
set_option maxHeartbeats 4000000 in
theorem k_fault {ps tb pos ne : Nat} (hG : GKx g) (HP : ParC h ps tb pos ne) : Kc g mX6_fault 5 (1) (7) [.ref ps] h (rR (fun v h' => ∃ q : Nat, v = some (.ref q) ∧ h q = none ∧ h' q = some (.inr (6, [.null, .null, .null, .null, .null, vz 0, vz ((pos : Nat) : Int)])) ∧ Fr g h h' [])) := by
  refine Kc.of (ls := [some (.ref ps)]) (by decide +kernel) (Nat.le_of_ble_eq_true rfl) rfl ?_
  refine ev_newC (c' := 0) (k' := 0) [.null, .null, .null, .null, .null, vz 0, vz 0] dX6_fault_0 cf_X7 q1683 q1684 q153 rfl (by omega) (by omega) (fun q1 hp_2 e3 B4 Hq1_5 f6 => ?_)
  have HP_7 := (f6 _ (ne_no HP e3)).trans HP
  have z8 := ((Fr.refl (g := g) _ [])).fresh e3
  have F9 := ((Fr.refl (g := g) _ [])).alloc (Or.inl ⟨_, Hq1_5⟩) f6 e3
  refine ev_dup dX6_fault_3 rfl ?_
  refine ev_aload_n dX6_fault_4 rfl ?_
  refine ev_getf dX6_fault_5 gf_X6_15_X6 HP_7 rfl ?_
  refine ev_callVR dX6_fault_8 ci_X6_39 ce_X7_init Hq1_5 rfl rfl rfl (k_initX7 (d := 3) hG Hq1_5 B4 (Nat.le_refl _)) (by omega) (by omega) (by omega) (Nat.le_of_ble_eq_true rfl) (fun v10 hp_10 P10 => ?_)
  obtain ⟨rfl, hn10, fr10⟩ := P10
  have HP_11 := fr10.keep HP_7 (by simp only [List.mem_cons, List.not_mem_nil, or_false, not_or]; exact (ne_no HP e3))
  have F12 := (F9).call fr10 (fun x hx => Or.inr (Or.inl (by rw [List.mem_singleton.mp hx]; exact z8)))
  refine ev_areturn dX6_fault_11 rfl (Or.inl ⟨_, rfl⟩) (Or.inr ⟨_, rfl⟩) ?_
  exact ⟨_, rfl, _, rfl, z8, hn10, F12⟩
set_option maxRecDepth 100000 in
set_option maxHeartbeats 4000000 in
theorem k_take {ps tb tv cap pos ne : Nat} {t : List Nat} (hG : GKx g) (HP : ParC h ps tb pos ne) (HT : SBh g h tb tv cap t) (hu9 : ∀ u ∈ t, u < 128) (hl : t.length < 100000) (hpn : pos ≤ t.length) {lo hi : Nat} (hlh : lo < 200 ∧ hi < 200) (hB : gB g ≤ ps) : Kc g mX6_take 6 (1) (7) [.ref ps, vz ((lo : Nat) : Int), vz ((hi : Nat) : Int)] h (if nx t pos lo hi then fun r h' => ∃ u : Nat, t[pos]? = some u ∧ r = .inl (some (vz ((u : Nat) : Int))) ∧ ParC h' ps tb (pos + 1) ne ∧ Fr g h h' [ps] else synQ g h [] pos) := by
  refine Kc.of (ls := [some (.ref ps), some (vz ((lo : Nat) : Int)), some (vz ((hi : Nat) : Int))]) (by decide +kernel) (Nat.le_of_ble_eq_true rfl) rfl ?_
  obtain ⟨TA, htb, -⟩ := id HT
  refine ev_aload_n dX6_take_0 rfl ?_
  refine ev_iload_n dX6_take_1 rfl ?_
  refine ev_iload_n dX6_take_2 rfl ?_
  refine ev_callVE dX6_take_3 cv_X6_33_X6 ce_X6_isNext HP rfl rfl rfl (k_isNext (d := 0) (lo := lo) (hi := hi) hG HP HT hu9 hl hpn hlh) (by omega) (Nat.le_of_ble_eq_true rfl) ?_
  refine ev_if_neB (tgt := 14) dX6_take_6 (by decide) (fun c6 => ?_) (fun c6 => ?_)
  · rw [c6]
    obtain ⟨u, hu⟩ : ∃ u, t[pos]? = some u := by
      cases q : t[pos]? with
      | none => unfold nx at c6; rw [q] at c6; cases c6
      | some u => exact ⟨u, rfl⟩
    have hu7 := hu9 u (List.mem_of_getElem? hu)
    refine ev_aload_n dX6_take_14 rfl ?_
    refine ev_dup dX6_take_15 rfl ?_
    refine ev_getf dX6_take_16 gf_X6_15_X6 HP rfl ?_
    refine ev_iconstZ dX6_take_19 ?_
    refine ev_iaddZ dX6_take_20 ?_
    refine ev_putC [.ref tb, vz (((pos : Nat) : Int) + 1), vz ((ne : Nat) : Int)] dX6_take_21 gf_X6_15_X6 HP hB (Or.inl rfl) rfl rfl (Nat.le_of_ble_eq_true rfl) rfl (fun hp_1 HP_2 f3 => ?_)
    have htb_4 := (f3 _ (ne_of htb HP (by simp))).trans htb
    have F5 := ((Fr.refl (g := g) _ [ps])).write (Or.inl ⟨_, HP_2⟩) f3 hB (by simp)
    have HT2 := HT.fr F5 (fun q => ne_of htb HP (by simp) (List.mem_singleton.mp q)) (fun q => (by obtain ⟨TA2, y1, y2, y3, -⟩ := id HT; exact ne_of y3 HP (by simp) (List.mem_singleton.mp q)))
    refine ev_aload_n dX6_take_24 rfl ?_
    refine ev_getf dX6_take_25 gf_X6_9_X6 HP_2 rfl ?_
    refine ev_aload_n dX6_take_28 rfl ?_
    refine ev_getf dX6_take_29 gf_X6_15_X6 HP_2 rfl ?_
    refine ev_iconstZ dX6_take_32 ?_
    refine ev_isubZ dX6_take_33 ?_
    refine ev_callVE dX6_take_34 (cf_X6_25_J6 hG) ce_J6_charAt htb_4 rfl rfl rfl (sb_charAt HT2 hG (by omega) (by rw [show (((pos : Nat) : Int) + 1 - 1).toNat = pos by omega]; exact hu)) (by omega) (Nat.le_of_ble_eq_true rfl) ?_
    refine ev_zreturn dX6_take_39 rfl (congrArg Value.int (vp_nar_c ⟨by omega, by omega⟩)) ?_
    exact ⟨u, hu, rfl, HP_2, F5⟩
  · rw [c6]
    refine ev_aload_n dX6_take_9 rfl ?_
    refine ev_callVR dX6_take_10 cv_X6_42_X6 ce_X6_fault HP rfl rfl rfl (k_fault hG HP) (by omega) (by omega) (by omega) (Nat.le_of_ble_eq_true rfl) (fun v9 h2 P9 => ?_)
    obtain ⟨q, rfl, zq9, hq9, fr9⟩ := P9
    exact ev_athrow (C := "") dX6_take_13 hq9 rfl (evx_out rfl ⟨q, rfl, zq9, hq9, fr9⟩)
set_option maxRecDepth 100000 in
set_option maxHeartbeats 4000000 in
theorem k_takes {ps tb tv cap pos ne : Nat} {t : List Nat} (hG : GKx g) (HP : ParC h ps tb pos ne) (HT : SBh g h tb tv cap t) (hu9 : ∀ u ∈ t, u < 128) (hl : t.length < 100000) (hpn : pos ≤ t.length) {lo : Nat} (hlh : lo < 200) (hB : gB g ≤ ps) : Kc g mX6_takes 7 (0) (0) [.ref ps, vz ((lo : Nat) : Int)] h (rR (fun v h' => v = some (vz (bI (nx t pos lo lo))) ∧ ParC h' ps tb (pos + if nx t pos lo lo = true then 1 else 0) ne ∧ Fr g h h' [ps])) := by
  refine Kc.of (ls := [some (.ref ps), some (vz ((lo : Nat) : Int)), none]) (by decide +kernel) (Nat.le_of_ble_eq_true rfl) rfl ?_
  obtain ⟨TA, htb, -⟩ := id HT
  refine ev_aload_n dX6_takes_0 rfl ?_
  refine ev_iload_n dX6_takes_1 rfl ?_
  refine ev_callVE dX6_takes_2 cv_X6_46_X6 ce_X6_isNext_2 HP rfl rfl rfl (k_isNext2 (d := 0) (lo := lo) hG HP HT hu9 hl hpn (by omega)) (by omega) (Nat.le_of_ble_eq_true rfl) ?_
  refine ev_istore_n dX6_takes_5 (by decide) rfl ?_
  dsimp only [List.set]
  refine ev_aload_n dX6_takes_6 rfl ?_
  refine ev_dup dX6_takes_7 rfl ?_
  refine ev_getf dX6_takes_8 gf_X6_15_X6 HP rfl ?_
  refine ev_iload_n dX6_takes_11 rfl ?_
  refine ev_if_eqB (tgt := 19) dX6_takes_12 (by decide) (fun c12 => ?_) (fun c12 => ?_)
  · rw [c12]
    refine ev_iconstZ dX6_takes_19 ?_
    refine ev_iaddZ dX6_takes_20 ?_
    refine ev_putC [.ref tb, vz (((pos : Nat) : Int) + 0), vz ((ne : Nat) : Int)] dX6_takes_21 gf_X6_15_X6 HP hB (Or.inl rfl) rfl rfl (Nat.le_of_ble_eq_true rfl) rfl (fun hp_1 HP_2 f3 => ?_)
    have htb_4 := (f3 _ (ne_of htb HP (by simp))).trans htb
    have F5 := ((Fr.refl (g := g) _ [ps])).write (Or.inl ⟨_, HP_2⟩) f3 hB (by simp)
    refine ev_iload_n dX6_takes_24 rfl ?_
    refine ev_zreturn dX6_takes_25 rfl rfl ?_
    first | exact ⟨_, rfl, rfl, (by rw [if_pos rfl]; exact HP_2), F5⟩ | exact ⟨_, rfl, rfl, (by rw [if_neg (by decide), Nat.add_zero]; have q9 := HP_2; rw [Int.add_zero] at q9; exact q9), F5⟩
  · rw [c12]
    refine ev_iconstZ dX6_takes_15 ?_
    refine ev_goto (tgt := 20) dX6_takes_16 (by decide) ?_
    refine ev_iaddZ dX6_takes_20 ?_
    refine ev_putC [.ref tb, vz (((pos : Nat) : Int) + 1), vz ((ne : Nat) : Int)] dX6_takes_21 gf_X6_15_X6 HP hB (Or.inl rfl) rfl rfl (Nat.le_of_ble_eq_true rfl) rfl (fun hp_6 HP_7 f8 => ?_)
    have htb_9 := (f8 _ (ne_of htb HP (by simp))).trans htb
    have F10 := ((Fr.refl (g := g) _ [ps])).write (Or.inl ⟨_, HP_7⟩) f8 hB (by simp)
    refine ev_iload_n dX6_takes_24 rfl ?_
    refine ev_zreturn dX6_takes_25 rfl rfl ?_
    first | exact ⟨_, rfl, rfl, (by rw [if_pos rfl]; exact HP_7), F10⟩ | exact ⟨_, rfl, rfl, (by rw [if_neg (by decide), Nat.add_zero]; have q9 := HP_7; rw [Int.add_zero] at q9; exact q9), F10⟩
end U3S

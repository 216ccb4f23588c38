/-! the reference reads: series begin (printed by gen) -/
section R4
variable {L1 : Nat → Int} {g : GB} {M : MI} {d c k : Nat} {Q : RS → HM → Prop} {pc : Nat} {ls : List (Option Value)} {st : List Value} {h : HM} {a b : Int} {ad : Nat → Nat} {o : Nat} {h0 : HM} {s : MSt}
/-- the row when a series begins at its end -/
def serN (ns : List Nd) : List Nd := ns ++ [(7, 0, 1, [], []), (6, 0, 0, [], [])]
theorem serN_eq (ns : List Nd) : (ns ++ [(7, 0, 0, [], [])]).set ns.length (incC (7, 0, 0, [], [])) ++ [(6, 0, 0, [], [])] = serN ns := by
  rw [List.set_append_right _ _ (Nat.le_refl _), Nat.sub_self]
  simp [serN, incC]
set_option maxRecDepth 100000 in
set_option maxHeartbeats 4000000 in
theorem k_beginsSeries {c1 : List Nat} {p : Nat} {b1 : Bool} {ns : List Nd} {lv : List (Nat × Nat)} (hM : MX g ad o h0 s h) (hps : psAt L1 s c1 p b1 ns lv) (hn : ns.length ≤ 890) (hd44 : dsum ns ≤ 1900) (hlv : lv.length ≤ 10) (hd : 4 ≤ d) : Kc g mX3_beginsSeries d 0 0 [.ref o] h (mP g ad o h0 (fun v s' => v = none ∧ fr s s' [37] [1, 38, 39] ∧ psAt L1 s' c1 p b1 (serN ns) ((ns.length, ns.length + 1) :: lv))) := by
  refine Kc.of (ls := [some (.ref o)]) (by decide +kernel) (Nat.le_of_ble_eq_true rfl) rfl ?_
  obtain ⟨hrd, hrw, h37, hlv2⟩ := hps
  refine ev_aload_n dX3_beginsSeries_0 rfl ?_
  refine mx_getA hM dX3_beginsSeries_1 gf_X3_77_X3 rfl ?_
  refine ev_aload_n dX3_beginsSeries_4 rfl ?_
  refine mx_getI hM dX3_beginsSeries_5 gf_X3_238_X3 rfl ?_
  rw [h37]
  refine ev_aload_n dX3_beginsSeries_8 rfl ?_
  refine mx_getA hM dX3_beginsSeries_9 gf_X3_7_X3 rfl ?_
  refine ev_bipushZ dX3_beginsSeries_12 rfl ?_
  refine mx_iald hM rfl dX3_beginsSeries_14 (by omega) ?_
  try simp only [uS_1, uA_1, uF_1, uS_2, uA_2a, uF_2a, Nat.reduceEqDiff, reduceIte, Int.reduceToNat, Int.toNat_natCast]
  rw [hrw.1]
  refine mx_iast hM rfl dX3_beginsSeries_15 (by omega) (fun h hM => ?_)
  rw [Int.toNat_natCast] at hM
  refine ev_aload_n dX3_beginsSeries_16 rfl ?_
  refine ev_bipushZ dX3_beginsSeries_17 rfl ?_
  refine ev_iconstZ dX3_beginsSeries_19 ?_
  refine ev_iconstZ dX3_beginsSeries_20 ?_
  refine mx_callv dX3_beginsSeries_21 cv_X3_241_X3 ce_X3_appends hM rfl rfl (k_appends ns.length (by simp only [uS_1, uA_1, uF_1, uS_2, uA_2a, uF_2a, Nat.reduceEqDiff, reduceIte, Int.reduceToNat, Int.toNat_natCast]; exact hrw.1) (by omega) (by simp only [uS_1, uA_1, uF_1, uS_2, uA_2a, uF_2a, Nat.reduceEqDiff, reduceIte, Int.reduceToNat, Int.toNat_natCast]; rw [hrw.2.1]; omega) (kd := 7) (v := 0) (ch := 0) hM (d := d - 1) (by omega)) (by omega) (Nat.le_of_ble_eq_true rfl) (fun h hM => ?_)
  refine ev_aload_n dX3_beginsSeries_24 rfl ?_
  refine ev_dup dX3_beginsSeries_25 rfl ?_
  refine mx_getI hM dX3_beginsSeries_26 gf_X3_238_X3 rfl ?_
  try simp only [uS_1, uA_1, uF_1, uS_2, uA_2a, uF_2a, Nat.reduceEqDiff, reduceIte, Int.reduceToNat, Int.toNat_natCast]
  rw [h37]
  refine ev_iconstZ dX3_beginsSeries_29 ?_
  refine ev_iaddZ dX3_beginsSeries_30 ?_
  refine mx_putI hM dX3_beginsSeries_31 gf_X3_238_X3 rfl (fun h hM => ?_)
  refine ev_aload_n dX3_beginsSeries_34 rfl ?_
  refine mx_callP dX3_beginsSeries_35 cv_X3_244_X3 ce_X3_beginsLayer hM rfl rfl (k_beginsLayer (c1 := c1) (p := p) (b1 := b1) (ns := ns ++ [(7, 0, 0, [], [])]) (lv := lv) (si := ns.length) (nd := (7, 0, 0, [], [])) hM hrd (rw_app (kd := 7) (v := 0) (ch := 0) hrw (by omega)) rfl (by simp only [uS_1, uA_1, uF_1, uS_2, uA_2a, uF_2a, Nat.reduceEqDiff, reduceIte, Int.reduceToNat, Int.toNat_natCast]) (lvAt.low (n := lv.length) (fun i hi => by refine ⟨?_, ?_⟩ <;> (try simp only [uS_1, uA_1, uF_1, uS_2, uA_2a, uF_2a, Nat.reduceEqDiff, reduceIte, Int.reduceToNat, Int.toNat_natCast]) <;> (try rw [if_neg (by omega)])) (Nat.le_refl _) hlv2) (by rw [List.getElem?_append_right (Nat.le_refl _), Nat.sub_self]; rfl) (by rw [List.length_append]; simp; omega) (by rw [dsum_app]; show dsum ns + 0 ≤ 1900; omega) hlv (d := d - 1) (by omega)) (by omega) (Nat.le_of_ble_eq_true rfl) (fun v s' h hP hM => ?_)
  obtain ⟨rfl, f2, hps2⟩ := hP
  refine ev_return dX3_beginsSeries_38 rfl ?_
  refine ⟨none, _, rfl, ⟨rfl, (fr.S (fr.F (fr.A (fr.refl s [37] [1, 38, 39]) rfl) rfl) rfl).trans (f2.more rfl rfl), ?_⟩, hM⟩
  rw [serN_eq, List.length_append] at hps2
  exact hps2
end R4

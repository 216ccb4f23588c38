/-! the reference reads: series and layers begin (printed by gen) -/
section R3
variable {L1 : Nat → Int} {g : GB} {M : MI} {d c k : Nat} {Q : RS → HM → Prop} {pc : Nat} {ls : List (Option Value)} {st : List Value} {h : HM} {a b : Int} {ad : Nat → Nat} {o : Nat} {h0 : HM} {s : MSt}
def lvAt (s : MSt) : List (Nat × Nat) → Prop
  | [] => True
  | x :: lv => s.2 38 lv.length = x.1 ∧ s.2 39 lv.length = x.2 ∧ lvAt s lv
theorem lvAt.low {s s' : MSt} {n : Nat} (h : ∀ i, i < n → s'.2 38 i = s.2 38 i ∧ s'.2 39 i = s.2 39 i) : ∀ {lv : List (Nat × Nat)}, lv.length ≤ n → lvAt s lv → lvAt s' lv := by
  intro lv
  induction lv with
  | nil => intro _ _; exact trivial
  | cons x lv ih =>
    intro hl hw
    rw [List.length_cons] at hl
    obtain ⟨q1, q2⟩ := h lv.length (by omega)
    exact ⟨q1.trans hw.1, q2.trans hw.2.1, ih (by omega) hw.2.2⟩
/-- the reference reads: text, place, all right, nodes, levels -/
def psAt (L1 : Nat → Int) (s : MSt) (c : List Nat) (p : Nat) (b : Bool) (ns : List Nd) (lv : List (Nat × Nat)) : Prop := rdAt s c p b ∧ rwAt L1 (s.2 1) ns ∧ s.1 37 = lv.length ∧ lvAt s lv
theorem rwAt.nd {A : Nat → Int} {ns : List Nd} {i : Nat} {nd : Nd} (h : rwAt L1 A ns) (hi : ns[i]? = some nd) : A (45 + 6 * i + 2) = nd.2.2.1 := (h.2.2.1 i nd hi).2.2.1
set_option maxRecDepth 100000 in
set_option maxHeartbeats 4000000 in
theorem k_beginsLayer {c1 : List Nat} {p : Nat} {b1 : Bool} {ns : List Nd} {lv : List (Nat × Nat)} {si : Nat} {nd : Nd} (hM : MX g ad o h0 s h) (hrd : rdAt s c1 p b1) (hrw : rwAt L1 (s.2 1) ns) (h37 : s.1 37 = (lv.length : Int) + 1) (hl38 : s.2 38 lv.length = si) (hlv2 : lvAt s lv) (hsi : ns[si]? = some nd) (hn : ns.length ≤ 900) (hd44 : dsum ns ≤ 1900) (hlv : lv.length ≤ 10) (hd : 3 ≤ d) : Kc g mX3_beginsLayer d 0 0 [.ref o] h (mP g ad o h0 (fun v s' => v = none ∧ fr s s' [] [1, 39] ∧ psAt L1 s' c1 p b1 (ns.set si (incC nd) ++ [(6, 0, 0, [], [])]) ((si, ns.length) :: lv))) := by
  refine Kc.of (ls := [some (.ref o)]) (by decide +kernel) (Nat.le_of_ble_eq_true rfl) rfl ?_
  have hil := lt_of_getE hsi
  have hset := rw_inc hrw (by omega) hsi
  have hds := dsum_set hsi (incC nd) (dlen_inc nd)
  refine ev_aload_n dX3_beginsLayer_0 rfl ?_
  refine ev_aload_n dX3_beginsLayer_1 rfl ?_
  refine mx_getA hM dX3_beginsLayer_2 gf_X3_77_X3 rfl ?_
  refine ev_aload_n dX3_beginsLayer_5 rfl ?_
  refine mx_getI hM dX3_beginsLayer_6 gf_X3_238_X3 rfl ?_
  rw [h37]
  refine ev_iconstZ dX3_beginsLayer_9 ?_
  refine ev_isubZ dX3_beginsLayer_10 ?_
  refine ev_to (b := ((lv.length : Nat) : Int)) (by omega) ?_
  refine mx_iald hM rfl dX3_beginsLayer_11 (by omega) ?_
  try simp only [uS_1, uA_1, uF_1, uS_2, uA_2a, uF_2a, Nat.reduceEqDiff, reduceIte, Int.reduceToNat, Int.toNat_natCast]
  rw [hl38]
  refine ev_iconstZ dX3_beginsLayer_12 ?_
  refine ev_aload_n dX3_beginsLayer_13 rfl ?_
  refine ev_aload_n dX3_beginsLayer_14 rfl ?_
  refine mx_getA hM dX3_beginsLayer_15 gf_X3_77_X3 rfl ?_
  refine ev_aload_n dX3_beginsLayer_18 rfl ?_
  refine mx_getI hM dX3_beginsLayer_19 gf_X3_238_X3 rfl ?_
  rw [h37]
  refine ev_iconstZ dX3_beginsLayer_22 ?_
  refine ev_isubZ dX3_beginsLayer_23 ?_
  refine ev_to (b := ((lv.length : Nat) : Int)) (by omega) ?_
  refine mx_iald hM rfl dX3_beginsLayer_24 (by omega) ?_
  try simp only [uS_1, uA_1, uF_1, uS_2, uA_2a, uF_2a, Nat.reduceEqDiff, reduceIte, Int.reduceToNat, Int.toNat_natCast]
  rw [hl38]
  refine ev_iconstZ dX3_beginsLayer_25 ?_
  refine mx_call dX3_beginsLayer_26 cv_X3_133_X3 ce_X3_of hM rfl rfl (k_ofN (n := si) (w := 2) (x := (nd.2.2.1 : Int)) (d := d - 1) (by omega) hM (by omega) (hrw.nd hsi)) (by omega) (Nat.le_of_ble_eq_true rfl) (fun h hM => ?_)
  refine ev_iconstZ dX3_beginsLayer_29 ?_
  refine ev_iaddZ dX3_beginsLayer_30 ?_
  refine mx_callv dX3_beginsLayer_31 cv_X3_137_X3 ce_X3_put hM rfl rfl (k_put (n := (si : Int)) (w := 2) (v := (nd.2.2.1 : Int) + 1) (d := d - 1) (by omega) hM (by omega)) (by omega) (Nat.le_of_ble_eq_true rfl) (fun h hM => ?_)
  rw [show (45 + 6 * (si : Int) + 2).toNat = 45 + 6 * si + 2 by omega] at hM
  refine ev_aload_n dX3_beginsLayer_34 rfl ?_
  refine mx_getA hM dX3_beginsLayer_35 gf_X3_80_X3 rfl ?_
  refine ev_aload_n dX3_beginsLayer_38 rfl ?_
  refine mx_getI hM dX3_beginsLayer_39 gf_X3_238_X3 rfl ?_
  try simp only [uS_1, uA_1, uF_1, uS_2, uA_2a, uF_2a, Nat.reduceEqDiff, reduceIte, Int.reduceToNat, Int.toNat_natCast]
  rw [h37]
  refine ev_iconstZ dX3_beginsLayer_42 ?_
  refine ev_isubZ dX3_beginsLayer_43 ?_
  refine ev_to (b := ((lv.length : Nat) : Int)) (by omega) ?_
  refine ev_aload_n dX3_beginsLayer_44 rfl ?_
  refine mx_getA hM dX3_beginsLayer_45 gf_X3_7_X3 rfl ?_
  refine ev_bipushZ dX3_beginsLayer_48 rfl ?_
  refine mx_iald hM rfl dX3_beginsLayer_50 (by omega) ?_
  try simp only [uS_1, uA_1, uF_1, uS_2, uA_2a, uF_2a, Nat.reduceEqDiff, reduceIte, Int.reduceToNat, Int.toNat_natCast]
  rw [if_neg (by omega), hrw.1]
  refine mx_iast hM rfl dX3_beginsLayer_51 (by omega) (fun h hM => ?_)
  rw [Int.toNat_natCast] at hM
  refine ev_aload_n dX3_beginsLayer_52 rfl ?_
  refine ev_bipushZ dX3_beginsLayer_53 rfl ?_
  refine ev_iconstZ dX3_beginsLayer_55 ?_
  refine ev_iconstZ dX3_beginsLayer_56 ?_
  refine mx_callv dX3_beginsLayer_57 cv_X3_241_X3 ce_X3_appends hM rfl rfl (k_appends ns.length (by simp only [uS_1, uA_1, uF_1, uS_2, uA_2a, uF_2a, Nat.reduceEqDiff, reduceIte, Int.reduceToNat, Int.toNat_natCast]; rw [if_neg (by omega)]; exact hrw.1) (by omega) (by simp only [uS_1, uA_1, uF_1, uS_2, uA_2a, uF_2a, Nat.reduceEqDiff, reduceIte, Int.reduceToNat, Int.toNat_natCast]; rw [if_neg (by omega), hrw.2.1]; omega) (kd := 6) (v := 0) (ch := 0) hM (d := d - 1) (by omega)) (by omega) (Nat.le_of_ble_eq_true rfl) (fun h hM => ?_)
  refine ev_return dX3_beginsLayer_60 rfl ?_
  refine ⟨none, _, rfl, ⟨rfl, fr.F (fr.A (fr.A (fr.refl _ _ _) rfl) rfl) rfl, ?_⟩, hM⟩
  refine ⟨hrd, ?_, by simp only [List.length_cons]; exact h37, ?_, ?_, ?_⟩
  · have q := rw_app (kd := 6) (v := 0) (ch := 0) hset (by rw [List.length_set]; exact hn)
    exact q
  · simp only [uS_1, uA_1, uF_1, uS_2, uA_2a, uF_2a, Nat.reduceEqDiff, reduceIte, Int.reduceToNat, Int.toNat_natCast]; exact hl38
  · simp only [uS_1, uA_1, uF_1, uS_2, uA_2a, uF_2a, Nat.reduceEqDiff, reduceIte, Int.reduceToNat, Int.toNat_natCast]
  · refine lvAt.low (n := lv.length) (fun i hi => ?_) (Nat.le_refl _) hlv2
    refine ⟨?_, ?_⟩ <;> (try simp only [uS_1, uA_1, uF_1, uS_2, uA_2a, uF_2a, Nat.reduceEqDiff, reduceIte, Int.reduceToNat, Int.toNat_natCast]) <;> (try rw [if_neg (by omega)])
end R3

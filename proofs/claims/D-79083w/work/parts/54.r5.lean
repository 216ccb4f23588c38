/-! the reference reads: a parenthesis (printed by gen) -/
section R5
variable {L1 : Nat → Int} {g : GB} {M : MI} {d c k : Nat} {Q : RS → HM → Prop} {pc : Nat} {ls : List (Option Value)} {st : List Value} {h : HM} {a b : Int} {ad : Nat → Nat} {o : Nat} {h0 : HM} {s : MSt}
def opnB (c : List Nat) (p : Nat) (b : Bool) (lv : List (Nat × Nat)) : Bool := b && (decide (hrV c p = 40) && decide (lv.length ≤ 10))
theorem psAt.right {s : MSt} {c : List Nat} {p : Nat} {b : Bool} {ns : List Nd} {lv : List (Nat × Nat)} (h : psAt L1 s c p b ns lv) (b' : Bool) : psAt L1 (uS s 36 (bI b')) c p b' ns lv := ⟨h.1.right b', h.2.1, h.2.2.1, lvAt.low (s := s) (s' := uS s 36 (bI b')) (n := lv.length) (fun _ _ => ⟨rfl, rfl⟩) (Nat.le_refl _) h.2.2.2⟩
theorem psAt.spot {s : MSt} {c : List Nat} {p : Nat} {b : Bool} {ns : List Nd} {lv : List (Nat × Nat)} (h : psAt L1 s c p b ns lv) (p' : Nat) : psAt L1 (uS s 35 (p' : Int)) c p' b ns lv := ⟨h.1.spot p', h.2.1, h.2.2.1, lvAt.low (s := s) (s' := uS s 35 (p' : Int)) (n := lv.length) (fun _ _ => ⟨rfl, rfl⟩) (Nat.le_refl _) h.2.2.2⟩
set_option maxRecDepth 100000 in
set_option maxHeartbeats 4000000 in
theorem k_opensSeries {c1 : List Nat} {p : Nat} {b1 : Bool} {ns : List Nd} {lv : List (Nat × Nat)} (hM : MX g ad o h0 s h) (hps : psAt L1 s c1 p b1 ns lv) (hn : ns.length ≤ 890) (hd44 : dsum ns ≤ 1900) (hp : p ≤ 200) (hl11 : lv.length ≤ 11) (hd : 6 ≤ d) : Kc g mX3_opensSeries d 0 0 [.ref o] h (mP g ad o h0 (fun v s' => v = none ∧ fr s s' [35, 36, 37] [1, 38, 39] ∧ (if opnB c1 p b1 lv then psAt L1 s' c1 (p + 1) true (serN ns) ((ns.length, ns.length + 1) :: lv) else psAt L1 s' c1 p false ns lv))) := by
  refine Kc.of (ls := [some (.ref o)]) (by decide +kernel) (Nat.le_of_ble_eq_true rfl) rfl ?_
  have T31 : ∀ (h : HM), MX g ad o h0 s h → Ev g mX3_opensSeries d 0 0 (mP g ad o h0 (fun v s' => v = none ∧ fr s s' [35, 36, 37] [1, 38, 39] ∧ (if opnB c1 p b1 lv then psAt L1 s' c1 (p + 1) true (serN ns) ((ns.length, ns.length + 1) :: lv) else psAt L1 s' c1 p false ns lv))) 31 [some (.ref o)] [vz (bI (opnB c1 p b1 lv)), .ref o] h := by
    intro h hM
    have hq := hps.right (opnB c1 p b1 lv)
    refine mx_putB hM dX3_opensSeries_31 gf_X3_231_X3 rfl (bI_o _) (fun h hM => ?_)
    refine ev_aload_n dX3_opensSeries_34 rfl ?_
    refine mx_getI hM dX3_opensSeries_35 gf_X3_231_X3 rfl ?_
    try simp only [uS_1, uA_1, uF_1, uS_2, uA_2a, uF_2a, Nat.reduceEqDiff, reduceIte, Int.reduceToNat, Int.toNat_natCast]
    refine ev_if_neB (tgt := 42) dX3_opensSeries_38 (by decide) (fun hb => ?_) (fun hb => ?_)
    · refine ev_aload_n dX3_opensSeries_42 rfl ?_
      refine ev_dup dX3_opensSeries_43 rfl ?_
      refine mx_getI hM dX3_opensSeries_44 gf_X3_228_X3 rfl ?_
      try simp only [uS_1, uA_1, uF_1, uS_2, uA_2a, uF_2a, Nat.reduceEqDiff, reduceIte, Int.reduceToNat, Int.toNat_natCast]
      rw [hps.1.1]
      refine ev_iconstZ dX3_opensSeries_47 ?_
      refine ev_iaddZ dX3_opensSeries_48 ?_
      refine ev_to (b := ((p + 1 : Nat) : Int)) (by omega) ?_
      refine mx_putI hM dX3_opensSeries_49 gf_X3_228_X3 rfl (fun h hM => ?_)
      refine ev_aload_n dX3_opensSeries_52 rfl ?_
      refine mx_callP dX3_opensSeries_53 cv_X3_263_X3 ce_X3_beginsSeries hM rfl rfl (k_beginsSeries (c1 := c1) (p := p + 1) (b1 := opnB c1 p b1 lv) (ns := ns) (lv := lv) hM (hq.spot (p + 1)) hn hd44 (by unfold opnB at hb; simp at hb; exact hb.2.2) (d := d - 1) (by omega)) (by omega) (Nat.le_of_ble_eq_true rfl) (fun v s' h hP hM => ?_)
      obtain ⟨rfl, f2, hps2⟩ := hP
      refine ev_return dX3_opensSeries_56 rfl ?_
      refine ⟨none, _, rfl, ⟨rfl, (fr.S (fr.S (fr.refl s [35, 36, 37] [1, 38, 39]) rfl) rfl).trans (f2.more rfl rfl), ?_⟩, hM⟩
      rw [if_pos hb]
      rw [hb] at hps2
      exact hps2
    · refine ev_return dX3_opensSeries_41 rfl ?_
      refine ⟨none, _, rfl, ⟨rfl, fr.S (fr.refl _ _ _) rfl, ?_⟩, hM⟩
      rw [if_neg (by rw [hb]; decide), hb]
      exact hps.right false
  refine ev_aload_n dX3_opensSeries_0 rfl ?_
  refine ev_aload_n dX3_opensSeries_1 rfl ?_
  refine mx_getI hM dX3_opensSeries_2 gf_X3_231_X3 rfl ?_
  try simp only [uS_1, uA_1, uF_1, uS_2, uA_2a, uF_2a, Nat.reduceEqDiff, reduceIte, Int.reduceToNat, Int.toNat_natCast]
  rw [hps.1.2.2.2.1]
  refine ev_if_eqB (tgt := 30) dX3_opensSeries_5 (by decide) (fun c5 => ?_) (fun c5 => ?_)
  · refine ev_iconstZ dX3_opensSeries_30 ?_
    have eb : opnB c1 p b1 lv = false := by unfold opnB; first | (rw [c5]; rfl) | (rw [decide_eq_false (show ¬ hrV c1 p = 40 by omega)]; simp) | (rw [decide_eq_false (show ¬ lv.length ≤ 10 by omega)]; simp)
    refine ev_to (b := bI (opnB c1 p b1 lv)) (by rw [eb]; rfl) ?_
    exact T31 h hM
  · refine ev_aload_n dX3_opensSeries_8 rfl ?_
    refine mx_call dX3_opensSeries_9 cv_X3_234_X3 ce_X3_here hM rfl rfl (k_here hM hps.1 hp (d := d - 1) (by omega)) (by omega) (Nat.le_of_ble_eq_true rfl) (fun h hM => ?_)
    refine ev_bipushZ dX3_opensSeries_12 rfl ?_
    refine ev_icmp_neZ (tgt := 30) dX3_opensSeries_14 (by decide) (by have := hrV_lt hps.1; omega) (by omega) (fun c14 => ?_) (fun c14 => ?_)
    · refine ev_iconstZ dX3_opensSeries_30 ?_
      have eb : opnB c1 p b1 lv = false := by unfold opnB; first | (rw [c5]; rfl) | (rw [decide_eq_false (show ¬ hrV c1 p = 40 by omega)]; simp) | (rw [decide_eq_false (show ¬ lv.length ≤ 10 by omega)]; simp)
      refine ev_to (b := bI (opnB c1 p b1 lv)) (by rw [eb]; rfl) ?_
      exact T31 h hM
    · refine ev_aload_n dX3_opensSeries_17 rfl ?_
      refine mx_getI hM dX3_opensSeries_18 gf_X3_238_X3 rfl ?_
      try simp only [uS_1, uA_1, uF_1, uS_2, uA_2a, uF_2a, Nat.reduceEqDiff, reduceIte, Int.reduceToNat, Int.toNat_natCast]
      rw [hps.2.2.1]
      refine ev_bipushZ dX3_opensSeries_21 rfl ?_
      refine ev_icmp_gtZ (tgt := 30) dX3_opensSeries_23 (by decide) (by omega) (by omega) (fun c23 => ?_) (fun c23 => ?_)
      · refine ev_iconstZ dX3_opensSeries_30 ?_
        have eb : opnB c1 p b1 lv = false := by unfold opnB; first | (rw [c5]; rfl) | (rw [decide_eq_false (show ¬ hrV c1 p = 40 by omega)]; simp) | (rw [decide_eq_false (show ¬ lv.length ≤ 10 by omega)]; simp)
        refine ev_to (b := bI (opnB c1 p b1 lv)) (by rw [eb]; rfl) ?_
        exact T31 h hM
      · refine ev_iconstZ dX3_opensSeries_26 ?_
        have eb : opnB c1 p b1 lv = true := by unfold opnB; rw [c5, decide_eq_true (show hrV c1 p = 40 by omega), decide_eq_true (show lv.length ≤ 10 by omega)]; rfl
        refine ev_to (b := bI (opnB c1 p b1 lv)) (by rw [eb]; rfl) ?_
        refine ev_goto (tgt := 31) dX3_opensSeries_27 (by decide) ?_
        exact T31 h hM
end R5

/-! the reference reads: a phrase (printed by gen) -/
section R8
variable {L1 : Nat → Int} {g : GB} {M : MI} {d c k : Nat} {Q : RS → HM → Prop} {pc : Nat} {ls : List (Option Value)} {st : List Value} {h : HM} {a b : Int} {ad : Nat → Nat} {o : Nat} {h0 : HM} {s : MSt}
theorem stp_b (x : Int) : -1 ≤ stp x ∧ stp x ≤ 4 := by
  unfold stp
  repeat' split
  all_goals omega
def phrH (c : List Nat) (p3 : Nat) (b3 : Bool) (ds : List Nat) : Bool × List Nat × List Nat × Nat :=
  ((b3 && isS c p3), ds, (if (b3 && isS c p3) then runS c (c.length + 1) p3 else ([], p3)).1, (if (b3 && isS c p3) then runS c (c.length + 1) p3 else ([], p3)).2)
def phrG (c : List Nat) (p2 : Nat) (b2 : Bool) (ds : List Nat) : Bool × List Nat × List Nat × Nat :=
  phrH c (if (b2 && decide (hrV c p2 = 58)) then p2 + 1 else p2) (b2 && decide (hrV c p2 = 58)) ds
theorem phrF_G (c : List Nat) (p : Nat) (b : Bool) : phrF c p b = phrG c (if (b && isD c p) then runD c (c.length + 1) p else ([], p)).2 (b && isD c p) (if (b && isD c p) then runD c (c.length + 1) p else ([], p)).1 := rfl
theorem lvAt.same {s s' : MSt} {lv : List (Nat × Nat)} (h : lvAt s lv) (h1 : s'.2 38 = s.2 38) (h2 : s'.2 39 = s.2 39) : lvAt s' lv := lvAt.low (s := s) (s' := s') (n := lv.length) (fun i _ => ⟨by rw [h1], by rw [h2]⟩) (Nat.le_refl _) h
theorem psAt.app {s : MSt} {c : List Nat} {p : Nat} {b : Bool} {ns : List Nd} {lv : List (Nat × Nat)} (h : psAt L1 s c p b ns lv) (kd v ch : Nat) (hn : ns.length ≤ 900) : psAt L1 (uF s 1 (appA (s.2 1) (kd : Int) (v : Int) (ch : Int))) c p b (ns ++ [(kd, v, ch, [], [])]) lv := ⟨h.1.fr (fr.F (fr.refl s [] [1]) rfl) rfl rfl, rw_app h.2.1 hn, h.2.2.1, h.2.2.2.same rfl rfl⟩
theorem psAt.ofb {s : MSt} {c : List Nat} {p : Nat} {b b' : Bool} {ns : List Nd} {lv : List (Nat × Nat)} (h : psAt L1 s c p b ns lv) (e : b = b') : psAt L1 s c p b' ns lv := by rw [← e]; exact h
theorem dsum_one (ns : List Nd) (nd : Nd) : dsum (ns ++ [nd]) = dsum ns + dlen nd := by rw [dsum_app]; rfl
set_option maxRecDepth 100000 in
set_option maxHeartbeats 4000000 in
theorem k_phrase {c1 : List Nat} {p : Nat} {b1 : Bool} {ns : List Nd} {lv : List (Nat × Nat)} {kd v : Nat} (hM : MX g ad o h0 s h) (hps : psAt L1 s c1 p b1 ns lv) (hn : ns.length ≤ 890) (hd44 : dsum ns + (c1.length - p) ≤ 1900) (hp : p ≤ c1.length) (hd : 3 ≤ d) : Kc g mX3_phrase d 0 0 [.ref o, vz (kd : Int), vz (v : Int)] h (mP g ad o h0 (fun v1 s' => v1 = none ∧ fr s s' [35, 36] [1] ∧ psAt L1 s' c1 (phrF c1 p b1).2.2.2 (phrF c1 p b1).1 (ns ++ [(kd, v, 0, (phrF c1 p b1).2.1, (phrF c1 p b1).2.2.1)]) lv)) := by
  refine Kc.of (ls := [some (.ref o), some (vz (kd : Int)), some (vz (v : Int))]) (by decide +kernel) (Nat.le_of_ble_eq_true rfl) rfl ?_
  have T94 : ∀ (s1 : MSt) (h : HM) (b4 : Bool) (p3 : Nat) (ds : List Nat), MX g ad o h0 s1 h → fr s s1 [35, 36] [1] → psAt L1 s1 c1 p3 b4 (ns ++ [(kd, v, 0, ds, [])]) lv → p3 ≤ c1.length → ds.length + p ≤ p3 → phrF c1 p b1 = (b4, ds, (if b4 then runS c1 (c1.length + 1) p3 else ([], p3)).1, (if b4 then runS c1 (c1.length + 1) p3 else ([], p3)).2) → Ev g mX3_phrase d 0 0 (mP g ad o h0 (fun v1 s' => v1 = none ∧ fr s s' [35, 36] [1] ∧ psAt L1 s' c1 (phrF c1 p b1).2.2.2 (phrF c1 p b1).1 (ns ++ [(kd, v, 0, (phrF c1 p b1).2.1, (phrF c1 p b1).2.2.1)]) lv)) 94 [some (.ref o), some (vz (kd : Int)), some (vz (v : Int))] [] h := by
    intro s1 h b4 p3 ds hM hf hps hp3 hdl heq
    cases b4 with
    | false =>
      refine ev_aload_n dX3_phrase_94 rfl ?_
      refine mx_getI hM dX3_phrase_95 gf_X3_231_X3 rfl ?_
      try simp only [uS_1, uA_1, uF_1, uS_2, uA_2a, uF_2a, Nat.reduceEqDiff, reduceIte, Int.reduceToNat, Int.toNat_natCast]
      rw [hps.1.2.2.2.1]
      refine ev_if_eqB (tgt := 126) dX3_phrase_98 (by decide) (fun c98 => ?_) (fun c98 => by cases c98)
      refine ev_return dX3_phrase_126 rfl ?_
      refine ⟨none, _, rfl, ⟨rfl, hf, ?_⟩, hM⟩
      rw [heq]
      exact hps
    | true =>
      rw [if_pos rfl] at heq
      refine ev_while (X := Nat × List Nat × Nat) (fun x => c1.length + 1 - x.1) (fun x h => ∃ s1 : MSt, (fr s s1 [35, 36] [1] ∧ psAt L1 s1 c1 x.1 true (ns ++ [(kd, v, 0, ds, x.2.1)]) lv ∧ x.1 ≤ c1.length ∧ x.2.2 + x.1 = c1.length + 1 + p3 ∧ x.2.1.length + p3 = x.1 ∧ x.2.1 ++ (runS c1 x.2.2 x.1).1 = (runS c1 (c1.length + 1) p3).1 ∧ (runS c1 x.2.2 x.1).2 = (runS c1 (c1.length + 1) p3).2) ∧ MX g ad o h0 s1 h) (fun _ => [some (.ref o), some (vz (kd : Int)), some (vz (v : Int))]) (p3, [], c1.length + 1) ⟨s1, ⟨hf, hps, hp3, rfl, by simp, by simp, rfl⟩, hM⟩ (by repeat' first | exact rfl | exact trivial | exact vz_eq (by omega) | refine And.intro ?_ ?_) (fun x h hX hN => ?_)
      clear hM hps hf s1
      obtain ⟨p1, ss, f1⟩ := x
      obtain ⟨s1, ⟨hf, hps, hx1, hx2, hx3, hx4, hx5⟩, hM⟩ := hX
      dsimp only at hps hx1 hx2 hx3 hx4 hx5
      have hc100 := hps.1.2.2.1
      refine ev_aload_n dX3_phrase_94 rfl ?_
      refine mx_getI hM dX3_phrase_95 gf_X3_231_X3 rfl ?_
      try simp only [uS_1, uA_1, uF_1, uS_2, uA_2a, uF_2a, Nat.reduceEqDiff, reduceIte, Int.reduceToNat, Int.toNat_natCast]
      rw [hps.1.2.2.2.1]
      refine ev_if_eqB (tgt := 126) dX3_phrase_98 (by decide) (fun c98 => by cases c98) (fun c98 => ?_)
      refine ev_aload_n dX3_phrase_101 rfl ?_
      refine mx_call dX3_phrase_102 cv_X3_234_X3 ce_X3_here hM rfl rfl (k_here hM hps.1 (by omega) (d := d - 1) (by omega)) (by omega) (Nat.le_of_ble_eq_true rfl) (fun h hM => ?_)
      refine ev_callSE dX3_phrase_105 cs_X3_257 ce_X3_stepOf rfl rfl (k_stepOf (v := hrV c1 p1) (d := d - 1) (by omega) (by have := hrV_lt hps.1; omega)) (by omega) (Nat.le_of_ble_eq_true rfl) ?_
      have hb := stp_b (hrV c1 p1)
      refine ev_iconstZ dX3_phrase_108 ?_
      refine ev_icmp_eqZ (tgt := 126) dX3_phrase_109 (by decide) (by omega) (by omega) (fun c109 => ?_) (fun c109 => ?_)
      · have hS : isS c1 p1 = false := by unfold isS; rw [c109]; rfl
        rw [runS_f hS] at hx4 hx5
        refine ev_return dX3_phrase_126 rfl ?_
        refine ⟨none, _, rfl, ⟨rfl, hf, ?_⟩, hM⟩
        rw [heq, ← hx4, ← hx5, List.append_nil]
        exact hps
      · have hS : isS c1 p1 = true := by unfold isS; rw [decide_eq_true c109]
        have hlt := isS_lt hS
        obtain ⟨f2, rfl⟩ : ∃ f2, f1 = f2 + 1 := ⟨f1 - 1, by omega⟩
        rw [runS_t hS] at hx4 hx5
        refine ev_aload_n dX3_phrase_112 rfl ?_
        refine ev_aload_n dX3_phrase_113 rfl ?_
        refine mx_callP dX3_phrase_114 cv_X3_251_X3 ce_X3_next hM rfl rfl (k_next hM hps.1 hlt (d := d - 1) (by omega)) (by omega) (Nat.le_of_ble_eq_true rfl) (fun v s' h hP hM => ?_)
        obtain ⟨rfl, f2x, r2⟩ := hP
        have q2 := hps.frr r2 f2x rfl rfl
        refine ev_callSE dX3_phrase_117 cs_X3_257 ce_X3_stepOf rfl rfl (k_stepOf (v := ((c1.getD p1 0 : Nat) : Int)) (d := d - 1) (by omega) (by have := hrV_lt hps.1; rw [hrV_get hlt] at this; omega)) (by omega) (Nat.le_of_ble_eq_true rfl) ?_
        refine ev_to (b := ((stN (hrV c1 p1) : Nat) : Int)) (by rw [← hrV_get hlt]; exact (stp_N c109).1) ?_
        refine mx_callv dX3_phrase_120 cv_X3_260_X3 ce_X3_addsStep hM rfl rfl (k_addsStep (ns.length + 1) (by rw [q2.2.1.1, List.length_append]; rfl) (by omega) (dsum (ns ++ [(kd, v, 0, ds, ss)])) q2.2.1.2.1 (by rw [dsum_one]; show dsum ns + (ds.length + ss.length) < 2000; omega) (by omega) (x := ((stN (hrV c1 p1) : Nat) : Int)) hM (d := d - 1) (by omega)) (by omega) (Nat.le_of_ble_eq_true rfl) (fun h hM => ?_)
        refine ev_goto (tgt := 94) dX3_phrase_123 (by decide) ?_
        exact hN (p1 + 1, ss ++ [stN (hrV c1 p1)], f2) _ _ (by show c1.length + 1 - (p1 + 1) < c1.length + 1 - p1; omega) (by repeat' first | exact rfl | exact trivial | exact vz_eq (by omega) | refine And.intro ?_ ?_) ⟨_, ⟨fr.F (hf.trans (f2x.more rfl rfl)) rfl, psAt.addN (w := 5) (x := stN (hrV c1 p1)) q2 (by omega) (by rw [dsum_one]; show dsum ns + (ds.length + ss.length) < 2000; omega) (Or.inr ⟨rfl, rfl⟩), by show p1 + 1 ≤ _; omega, by show f2 + (p1 + 1) = _; omega, by show (ss ++ [_]).length + p3 = p1 + 1; rw [List.length_append]; show ss.length + 1 + p3 = _; omega, by rw [← hx4]; simp, hx5⟩, hM⟩
  have T67 : ∀ (s1 : MSt) (h : HM) (b3 : Bool) (p3 : Nat) (ds : List Nat), MX g ad o h0 s1 h → fr s s1 [35, 36] [1] → psAt L1 s1 c1 p3 b3 (ns ++ [(kd, v, 0, ds, [])]) lv → p3 ≤ c1.length → ds.length + p ≤ p3 → phrF c1 p b1 = phrH c1 p3 b3 ds → Ev g mX3_phrase d 0 0 (mP g ad o h0 (fun v1 s' => v1 = none ∧ fr s s' [35, 36] [1] ∧ psAt L1 s' c1 (phrF c1 p b1).2.2.2 (phrF c1 p b1).1 (ns ++ [(kd, v, 0, (phrF c1 p b1).2.1, (phrF c1 p b1).2.2.1)]) lv)) 67 [some (.ref o), some (vz (kd : Int)), some (vz (v : Int))] [] h := by
    intro s1 h b3 p3 ds hM hf hps hp3 hdl heq
    have T91 : ∀ (h : HM), MX g ad o h0 s1 h → Ev g mX3_phrase d 0 0 (mP g ad o h0 (fun v1 s' => v1 = none ∧ fr s s' [35, 36] [1] ∧ psAt L1 s' c1 (phrF c1 p b1).2.2.2 (phrF c1 p b1).1 (ns ++ [(kd, v, 0, (phrF c1 p b1).2.1, (phrF c1 p b1).2.2.1)]) lv)) 91 [some (.ref o), some (vz (kd : Int)), some (vz (v : Int))] [vz (bI (b3 && isS c1 p3)), .ref o] h := by
      intro h hM
      refine mx_putB hM dX3_phrase_91 gf_X3_231_X3 rfl (bI_o _) (fun h hM => ?_)
      exact T94 _ h _ p3 ds hM (fr.S hf rfl) (hps.right _) hp3 hdl heq
    refine ev_aload_n dX3_phrase_67 rfl ?_
    refine ev_aload_n dX3_phrase_68 rfl ?_
    refine mx_getI hM dX3_phrase_69 gf_X3_231_X3 rfl ?_
    try simp only [uS_1, uA_1, uF_1, uS_2, uA_2a, uF_2a, Nat.reduceEqDiff, reduceIte, Int.reduceToNat, Int.toNat_natCast]
    rw [hps.1.2.2.2.1]
    refine ev_if_eqB (tgt := 90) dX3_phrase_72 (by decide) (fun c72 => ?_) (fun c72 => ?_)
    · refine ev_iconstZ dX3_phrase_90 ?_
      refine ev_to (b := bI (b3 && isS c1 p3)) (by first | (rw [c72]; rfl) | (rw [show isS c1 p3 = false by unfold isS; rw [c83]; rfl, Bool.and_false]; rfl)) ?_
      exact T91 h hM
    · refine ev_aload_n dX3_phrase_75 rfl ?_
      refine mx_call dX3_phrase_76 cv_X3_234_X3 ce_X3_here hM rfl rfl (k_here hM hps.1 (by have := hps.1.2.2.1; omega) (d := d - 1) (by omega)) (by omega) (Nat.le_of_ble_eq_true rfl) (fun h hM => ?_)
      refine ev_callSE dX3_phrase_79 cs_X3_257 ce_X3_stepOf rfl rfl (k_stepOf (v := hrV c1 p3) (d := d - 1) (by omega) (by have := hrV_lt hps.1; omega)) (by omega) (Nat.le_of_ble_eq_true rfl) ?_
      have hb := stp_b (hrV c1 p3)
      refine ev_iconstZ dX3_phrase_82 ?_
      refine ev_icmp_eqZ (tgt := 90) dX3_phrase_83 (by decide) (by omega) (by omega) (fun c83 => ?_) (fun c83 => ?_)
      · refine ev_iconstZ dX3_phrase_90 ?_
        refine ev_to (b := bI (b3 && isS c1 p3)) (by first | (rw [c72]; rfl) | (rw [show isS c1 p3 = false by unfold isS; rw [c83]; rfl, Bool.and_false]; rfl)) ?_
        exact T91 h hM
      · refine ev_iconstZ dX3_phrase_86 ?_
        refine ev_to (b := bI (b3 && isS c1 p3)) (by rw [c72, show isS c1 p3 = true by unfold isS; rw [decide_eq_true c83]]; rfl) ?_
        refine ev_goto (tgt := 91) dX3_phrase_87 (by decide) ?_
        exact T91 h hM
  have T46 : ∀ (s1 : MSt) (h : HM) (b2 : Bool) (p2 : Nat) (ds : List Nat), MX g ad o h0 s1 h → fr s s1 [35, 36] [1] → psAt L1 s1 c1 p2 b2 (ns ++ [(kd, v, 0, ds, [])]) lv → p2 ≤ c1.length → ds.length + p ≤ p2 → phrF c1 p b1 = phrG c1 p2 b2 ds → Ev g mX3_phrase d 0 0 (mP g ad o h0 (fun v1 s' => v1 = none ∧ fr s s' [35, 36] [1] ∧ psAt L1 s' c1 (phrF c1 p b1).2.2.2 (phrF c1 p b1).1 (ns ++ [(kd, v, 0, (phrF c1 p b1).2.1, (phrF c1 p b1).2.2.1)]) lv)) 46 [some (.ref o), some (vz (kd : Int)), some (vz (v : Int))] [] h := by
    intro s1 h b2 p2 ds hM hf hps hp2 hdl heq
    refine ev_aload_n dX3_phrase_46 rfl ?_
    refine ev_bipushZ dX3_phrase_47 rfl ?_
    refine ev_bipushZ dX3_phrase_49 rfl ?_
    refine mx_callP dX3_phrase_51 cv_X3_247_X3 ce_X3_isHere hM rfl rfl (k_isHere hM hps.1 (lo1 := 58) (hi1 := 58) (by have := hps.1.2.2.1; omega) (by omega) (d := d - 1) (by omega)) (by omega) (Nat.le_of_ble_eq_true rfl) (fun v s' h hP hM => ?_)
    obtain ⟨rfl, f2, r2⟩ := hP
    have e58 : decide (58 ≤ hrV c1 p2 ∧ hrV c1 p2 ≤ 58) = decide (hrV c1 p2 = 58) := by rw [decide_eq_decide]; omega
    rw [e58] at r2 ⊢
    have q2 := hps.frr r2 f2 rfl rfl
    refine ev_if_eqB (tgt := 67) dX3_phrase_54 (by decide) (fun c54 => ?_) (fun c54 => ?_)
    · exact T67 _ h _ p2 ds hM (hf.trans (f2.more rfl rfl)) q2 hp2 hdl (by rw [heq]; unfold phrG; rw [c54]; rfl)
    · have h58 : hrV c1 p2 = 58 := by simp at c54; exact c54.2
      have hlt := hrV_in h58 (by decide)
      refine ev_aload_n dX3_phrase_57 rfl ?_
      refine ev_dup dX3_phrase_58 rfl ?_
      refine mx_getI hM dX3_phrase_59 gf_X3_228_X3 rfl ?_
      try simp only [uS_1, uA_1, uF_1, uS_2, uA_2a, uF_2a, Nat.reduceEqDiff, reduceIte, Int.reduceToNat, Int.toNat_natCast]
      rw [q2.1.1]
      refine ev_iconstZ dX3_phrase_62 ?_
      refine ev_iaddZ dX3_phrase_63 ?_
      refine ev_to (b := ((p2 + 1 : Nat) : Int)) (by omega) ?_
      refine mx_putI hM dX3_phrase_64 gf_X3_228_X3 rfl (fun h hM => ?_)
      exact T67 _ h _ (p2 + 1) ds hM (fr.S (hf.trans (f2.more rfl rfl)) rfl) (q2.spot (p2 + 1)) hlt (by omega) (by rw [heq]; unfold phrG; rw [c54]; rfl)
  refine ev_aload_n dX3_phrase_0 rfl ?_
  refine ev_iload_n dX3_phrase_1 rfl ?_
  refine ev_iload_n dX3_phrase_2 rfl ?_
  refine ev_iconstZ dX3_phrase_3 ?_
  refine mx_callv dX3_phrase_4 cv_X3_241_X3 ce_X3_appends hM rfl rfl (k_appends ns.length hps.2.1.1 (by omega) (by rw [hps.2.1.2.1]; omega) (kd := (kd : Int)) (v := (v : Int)) (ch := 0) hM (d := d - 1) (by omega)) (by omega) (Nat.le_of_ble_eq_true rfl) (fun h hM => ?_)
  have hps1 : psAt L1 (uF s 1 (appA (s.2 1) (kd : Int) (v : Int) ((0 : Nat) : Int))) c1 p b1 (ns ++ [(kd, v, 0, [], [])]) lv := hps.app kd v 0 (by omega)
  refine ev_aload_n dX3_phrase_7 rfl ?_
  refine ev_bipushZ dX3_phrase_8 rfl ?_
  refine ev_bipushZ dX3_phrase_10 rfl ?_
  refine mx_callP dX3_phrase_12 cv_X3_247_X3 ce_X3_isHere hM rfl rfl (k_isHere hM hps1.1 (lo1 := 65) (hi1 := 72) (by have := hps.1.2.2.1; omega) (by omega) (d := d - 1) (by omega)) (by omega) (Nat.le_of_ble_eq_true rfl) (fun v s' h hP hM => ?_)
  obtain ⟨rfl, f2, r2⟩ := hP
  have q2 := hps1.frr r2 f2 rfl rfl
  refine ev_if_eqB (x := (b1 && isD c1 p)) (tgt := 46) dX3_phrase_15 (by decide) (fun hb2 => ?_) (fun hb2 => ?_)
  · exact T46 _ h (b1 && isD c1 p) p [] hM ((fr.F (fr.refl s [35, 36] [1]) rfl).trans (f2.more rfl rfl)) q2 hp (by simp) (by rw [phrF_G, hb2]; rfl)
  · have q2 : psAt L1 s' c1 p true (ns ++ [(kd, v, 0, [], [])]) lv := by rw [← hb2]; exact q2
    refine ev_while (X := Nat × List Nat × Nat) (fun x => c1.length + 1 - x.1) (fun x h => ∃ s1 : MSt, (fr s s1 [35, 36] [1] ∧ psAt L1 s1 c1 x.1 true (ns ++ [(kd, v, 0, x.2.1, [])]) lv ∧ x.1 ≤ c1.length ∧ x.2.2 + x.1 = c1.length + 1 + p ∧ x.2.1.length + p = x.1 ∧ x.2.1 ++ (runD c1 x.2.2 x.1).1 = (runD c1 (c1.length + 1) p).1 ∧ (runD c1 x.2.2 x.1).2 = (runD c1 (c1.length + 1) p).2) ∧ MX g ad o h0 s1 h) (fun _ => [some (.ref o), some (vz (kd : Int)), some (vz (v : Int))]) (p, [], c1.length + 1) ⟨_, ⟨(fr.F (fr.refl s [35, 36] [1]) rfl).trans (f2.more rfl rfl), q2, hp, rfl, by simp, by simp, rfl⟩, hM⟩ (by repeat' first | exact rfl | exact trivial | exact vz_eq (by omega) | refine And.intro ?_ ?_) (fun x h hX hN => ?_)
    clear hM q2 f2
    obtain ⟨p1, ds, f1⟩ := x
    obtain ⟨s1, ⟨hf, hps, hx1, hx2, hx3, hx4, hx5⟩, hM⟩ := hX
    dsimp only at hps hx1 hx2 hx3 hx4 hx5
    refine ev_aload_n dX3_phrase_18 rfl ?_
    refine mx_call dX3_phrase_19 cv_X3_234_X3 ce_X3_here hM rfl rfl (k_here hM hps.1 (by have := hps.1.2.2.1; omega) (d := d - 1) (by omega)) (by omega) (Nat.le_of_ble_eq_true rfl) (fun h hM => ?_)
    refine ev_bipushZ dX3_phrase_22 rfl ?_
    refine ev_bipushZ dX3_phrase_24 rfl ?_
    refine ev_callSE dX3_phrase_26 cs_X3_121 ce_X3_in rfl rfl (k_in (d := d - 1) (by omega) (by have := hrV_lt hps.1; omega)) (by omega) (Nat.le_of_ble_eq_true rfl) ?_
    refine ev_if_eqB (x := isD c1 p1) (tgt := 46) dX3_phrase_29 (by decide) (fun c29 => ?_) (fun c29 => ?_)
    · rw [runD_f c29] at hx4 hx5
      exact T46 _ h true p1 ds hM hf hps hx1 (by omega) (by rw [phrF_G, hb2, if_pos rfl, ← hx4, ← hx5, List.append_nil])
    · have hlt := isD_lt c29
      obtain ⟨f2, rfl⟩ : ∃ f2, f1 = f2 + 1 := ⟨f1 - 1, by omega⟩
      rw [runD_t c29] at hx4 hx5
      refine ev_aload_n dX3_phrase_32 rfl ?_
      refine ev_aload_n dX3_phrase_33 rfl ?_
      refine mx_callP dX3_phrase_34 cv_X3_251_X3 ce_X3_next hM rfl rfl (k_next hM hps.1 hlt (d := d - 1) (by omega)) (by omega) (Nat.le_of_ble_eq_true rfl) (fun v s' h hP hM => ?_)
      obtain ⟨rfl, f2x, r2⟩ := hP
      have q2 := hps.frr r2 f2x rfl rfl
      refine ev_bipushZ dX3_phrase_37 rfl ?_
      refine ev_isubZ dX3_phrase_39 ?_
      refine ev_to (b := (((hrV c1 p1 - 65).toNat : Nat) : Int)) (by rw [← hrV_get hlt]; unfold isD at c29; simp at c29; omega) ?_
      refine mx_callv dX3_phrase_40 cv_X3_254_X3 ce_X3_addsDancer hM rfl rfl (k_addsDancer (ns.length + 1) (by rw [q2.2.1.1, List.length_append]; rfl) (by omega) (dsum (ns ++ [(kd, v, 0, ds, [])])) q2.2.1.2.1 (by rw [dsum_one]; show dsum ns + (ds.length + 0) < 2000; omega) (by omega) (x := (((hrV c1 p1 - 65).toNat : Nat) : Int)) hM (d := d - 1) (by omega)) (by omega) (Nat.le_of_ble_eq_true rfl) (fun h hM => ?_)
      refine ev_goto (tgt := 18) dX3_phrase_43 (by decide) ?_
      exact hN (p1 + 1, ds ++ [(hrV c1 p1 - 65).toNat], f2) _ _ (by show c1.length + 1 - (p1 + 1) < c1.length + 1 - p1; omega) (by repeat' first | exact rfl | exact trivial | exact vz_eq (by omega) | refine And.intro ?_ ?_) ⟨_, ⟨fr.F (hf.trans (f2x.more rfl rfl)) rfl, psAt.addN (w := 4) (x := (hrV c1 p1 - 65).toNat) q2 (by omega) (by rw [dsum_one]; show dsum ns + (ds.length + 0) < 2000; omega) (Or.inl ⟨rfl, rfl, rfl⟩), by show p1 + 1 ≤ _; omega, by show f2 + (p1 + 1) = _; omega, by show (ds ++ [_]).length + p = p1 + 1; rw [List.length_append]; show ds.length + 1 + p = _; omega, by rw [← hx4]; simp, hx5⟩, hM⟩
end R8

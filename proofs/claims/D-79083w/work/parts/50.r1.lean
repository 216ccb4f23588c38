/-! the reference reads: signs (printed by gen) -/
section R1
variable {g : GB} {M : MI} {d c k : Nat} {Q : RS → HM → Prop} {pc : Nat} {ls : List (Option Value)} {st : List Value} {h : HM} {a b : Int} {ad : Nat → Nat} {o : Nat} {h0 : HM} {s : MSt}
/-- the reference reads the text c, at p; all right so far: b -/
def rdAt (s : MSt) (c : List Nat) (p : Nat) (b : Bool) : Prop := s.1 35 = p ∧ s.1 10 = c.length ∧ c.length ≤ 100 ∧ s.1 36 = bI b ∧ ∀ i x : Nat, c[i]? = some x → s.2 9 i = x ∧ x < 256
def hrV (c : List Nat) (p : Nat) : Int := if p < c.length then ((c.getD p 0 : Nat) : Int) else -1
theorem hrV_lt {s : MSt} {c : List Nat} {p : Nat} {b : Bool} (h : rdAt s c p b) : -1 ≤ hrV c p ∧ hrV c p < 256 := by
  unfold hrV
  split
  · rename_i q
    have := (h.2.2.2.2 p _ (by rw [List.getD_eq_getElem?_getD, List.getElem?_eq_getElem q]; rfl : c[p]? = some (c.getD p 0))).2
    omega
  · omega
theorem rdAt.get {s : MSt} {c : List Nat} {p : Nat} {b : Bool} (h : rdAt s c p b) {i : Nat} (hi : i < c.length) : s.2 9 i = (c.getD i 0 : Nat) := (h.2.2.2.2 i _ (by rw [List.getD_eq_getElem?_getD, List.getElem?_eq_getElem hi]; rfl)).1
theorem rdAt.fr {s s' : MSt} {c : List Nat} {p : Nat} {b : Bool} {K J : List Nat} (h : rdAt s c p b) (hf : fr s s' K J) (hK : [10, 35, 36].all (fun x => ! K.contains x) = true) (hJ : J.contains 9 = false) : rdAt s' c p b := by
  have key : ∀ j, j ∈ [10, 35, 36] → s'.1 j = s.1 j := fun j hj => hf.1 j (by
    have := List.all_eq_true.mp hK j hj
    simpa using this)
  unfold rdAt
  rw [key 10 (by simp), key 35 (by simp), key 36 (by simp), hf.2 9 (fun q => by simp at hJ; exact hJ q)]
  exact h
theorem rdAt.spot {s : MSt} {c : List Nat} {p : Nat} {b : Bool} (h : rdAt s c p b) (p' : Nat) : rdAt (uS s 35 (p' : Int)) c p' b := ⟨rfl, h.2.1, h.2.2.1, h.2.2.2.1, h.2.2.2.2⟩
theorem rdAt.right {s : MSt} {c : List Nat} {p : Nat} {b : Bool} (h : rdAt s c p b) (b' : Bool) : rdAt (uS s 36 (bI b')) c p b' := ⟨h.1, h.2.1, h.2.2.1, rfl, h.2.2.2.2⟩
set_option maxRecDepth 100000 in
set_option maxHeartbeats 4000000 in
theorem k_here {c1 : List Nat} {p : Nat} {b1 : Bool} (hM : MX g ad o h0 s h) (hr : rdAt s c1 p b1) (hp : p ≤ 200) (hd : 1 ≤ d) : Kc g mX3_here d 0 0 [.ref o] h (mR g ad o h0 (some (vz (hrV c1 p))) s) := by
  refine Kc.of (ls := [some (.ref o)]) (by decide +kernel) (Nat.le_of_ble_eq_true rfl) rfl ?_
  have hl := hr.2.2.1
  refine ev_aload_n dX3_here_0 rfl ?_
  refine mx_getI hM dX3_here_1 gf_X3_228_X3 rfl ?_
  rw [hr.1]
  refine ev_aload_n dX3_here_4 rfl ?_
  refine mx_getI hM dX3_here_5 gf_X3_225_X3 rfl ?_
  rw [hr.2.1]
  refine ev_icmp_geZ (tgt := 23) dX3_here_8 (by decide) (by omega) (by omega) (fun c8 => ?_) (fun c8 => ?_)
  · refine ev_iconstZ dX3_here_23 ?_
    refine ev_ireturn dX3_here_24 rfl ?_
    exact ⟨by unfold hrV; first | (rw [if_pos (by omega)]; done) | (rw [if_neg (by omega)]; done), hM⟩
  · refine ev_aload_n dX3_here_11 rfl ?_
    refine mx_getA hM dX3_here_12 gf_X3_27_X3 rfl ?_
    refine ev_aload_n dX3_here_15 rfl ?_
    refine mx_getI hM dX3_here_16 gf_X3_228_X3 rfl ?_
    rw [hr.1]
    refine mx_iald hM rfl dX3_here_19 (by omega) ?_
    try simp only [uS_1, uA_1, uF_1, uS_2, uA_2a, uF_2a, Nat.reduceEqDiff, reduceIte, Int.reduceToNat, Int.toNat_natCast]
    rw [hr.get (by omega)]
    refine ev_goto (tgt := 24) dX3_here_20 (by decide) ?_
    refine ev_ireturn dX3_here_24 rfl ?_
    exact ⟨by unfold hrV; first | (rw [if_pos (by omega)]; done) | (rw [if_neg (by omega)]; done), hM⟩
set_option maxRecDepth 100000 in
set_option maxHeartbeats 4000000 in
theorem k_next {c1 : List Nat} {p : Nat} {b1 : Bool} (hM : MX g ad o h0 s h) (hr : rdAt s c1 p b1) (hp : p < c1.length) (hd : 1 ≤ d) : Kc g mX3_next d 0 0 [.ref o] h (mP g ad o h0 (fun v s' => v = some (vz ((c1.getD p 0 : Nat) : Int)) ∧ fr s s' [35] [] ∧ rdAt s' c1 (p + 1) b1)) := by
  refine Kc.of (ls := [some (.ref o)]) (by decide +kernel) (Nat.le_of_ble_eq_true rfl) rfl ?_
  have hl := hr.2.2.1
  refine ev_aload_n dX3_next_0 rfl ?_
  refine ev_dup dX3_next_1 rfl ?_
  refine mx_getI hM dX3_next_2 gf_X3_228_X3 rfl ?_
  rw [hr.1]
  refine ev_iconstZ dX3_next_5 ?_
  refine ev_iaddZ dX3_next_6 ?_
  refine ev_to (b := ((p + 1 : Nat) : Int)) (by omega) ?_
  refine mx_putI hM dX3_next_7 gf_X3_228_X3 rfl (fun h hM => ?_)
  refine ev_aload_n dX3_next_10 rfl ?_
  refine mx_getA hM dX3_next_11 gf_X3_27_X3 rfl ?_
  refine ev_aload_n dX3_next_14 rfl ?_
  refine mx_getI hM dX3_next_15 gf_X3_228_X3 rfl ?_
  try simp only [uS_1, uA_1, uF_1, uS_2, uA_2a, uF_2a, Nat.reduceEqDiff, reduceIte, Int.reduceToNat, Int.toNat_natCast]
  refine ev_iconstZ dX3_next_18 ?_
  refine ev_isubZ dX3_next_19 ?_
  refine ev_to (b := ((p : Nat) : Int)) (by omega) ?_
  refine mx_iald hM rfl dX3_next_20 (by omega) ?_
  try simp only [uS_1, uA_1, uF_1, uS_2, uA_2a, uF_2a, Nat.reduceEqDiff, reduceIte, Int.reduceToNat, Int.toNat_natCast]
  rw [hr.get hp]
  refine ev_ireturn dX3_next_21 rfl ?_
  exact ⟨_, _, rfl, ⟨rfl, fr.S (fr.refl _ _ _) rfl, hr.spot (p + 1)⟩, hM⟩
set_option maxRecDepth 100000 in
set_option maxHeartbeats 4000000 in
theorem k_isHere {c1 : List Nat} {p : Nat} {b1 : Bool} (hM : MX g ad o h0 s h) (hr : rdAt s c1 p b1) {lo1 hi1 : Int} (hp : p ≤ 200) (hb : inR lo1 ∧ inR hi1) (hd : 2 ≤ d) : Kc g mX3_isHere d 0 0 [.ref o, vz lo1, vz hi1] h (mP g ad o h0 (fun v s' => v = some (vz (bI (b1 && decide (lo1 ≤ hrV c1 p ∧ hrV c1 p ≤ hi1)))) ∧ fr s s' [36] [] ∧ rdAt s' c1 p (b1 && decide (lo1 ≤ hrV c1 p ∧ hrV c1 p ≤ hi1)))) := by
  refine Kc.of (ls := [some (.ref o), some (vz lo1), some (vz hi1)]) (by decide +kernel) (Nat.le_of_ble_eq_true rfl) rfl ?_
  have hl := hr.2.2.1
  have hv := hrV_lt hr
  refine ev_aload_n dX3_isHere_0 rfl ?_
  refine ev_aload_n dX3_isHere_1 rfl ?_
  refine mx_getI hM dX3_isHere_2 gf_X3_231_X3 rfl ?_
  rw [hr.2.2.2.1]
  refine ev_if_eqB (tgt := 24) dX3_isHere_5 (by decide) (fun c5 => ?_) (fun c5 => ?_)
  · refine ev_iconstZ dX3_isHere_24 ?_
    refine ev_to (b := bI (b1 && decide (lo1 ≤ hrV c1 p ∧ hrV c1 p ≤ hi1))) (by first | (rw [c5]; rfl) | (rw [c17, Bool.and_false]; rfl)) ?_
    refine mx_putB hM dX3_isHere_25 gf_X3_231_X3 rfl (bI_o _) (fun h hM => ?_)
    refine ev_aload_n dX3_isHere_28 rfl ?_
    refine mx_getI hM dX3_isHere_29 gf_X3_231_X3 rfl ?_
    try simp only [uS_1, uA_1, uF_1, uS_2, uA_2a, uF_2a, Nat.reduceEqDiff, reduceIte, Int.reduceToNat, Int.toNat_natCast]
    refine ev_zreturn dX3_isHere_32 rfl (narrow_zb (bI_o _)) ?_
    exact ⟨_, _, rfl, ⟨rfl, fr.S (fr.refl _ _ _) rfl, hr.right _⟩, hM⟩
  · refine ev_aload_n dX3_isHere_8 rfl ?_
    refine mx_call dX3_isHere_9 cv_X3_234_X3 ce_X3_here hM rfl rfl (k_here hM hr hp (d := d - 1) (by omega)) (by omega) (Nat.le_of_ble_eq_true rfl) (fun h hM => ?_)
    refine ev_iload_n dX3_isHere_12 rfl ?_
    refine ev_iload_n dX3_isHere_13 rfl ?_
    refine ev_callSE dX3_isHere_14 cs_X3_121 ce_X3_in rfl rfl (k_in (d := d - 1) (by omega) (by omega)) (by omega) (Nat.le_of_ble_eq_true rfl) ?_
    refine ev_if_eqB (tgt := 24) dX3_isHere_17 (by decide) (fun c17 => ?_) (fun c17 => ?_)
    · refine ev_iconstZ dX3_isHere_24 ?_
      refine ev_to (b := bI (b1 && decide (lo1 ≤ hrV c1 p ∧ hrV c1 p ≤ hi1))) (by first | (rw [c5]; rfl) | (rw [c17, Bool.and_false]; rfl)) ?_
      refine mx_putB hM dX3_isHere_25 gf_X3_231_X3 rfl (bI_o _) (fun h hM => ?_)
      refine ev_aload_n dX3_isHere_28 rfl ?_
      refine mx_getI hM dX3_isHere_29 gf_X3_231_X3 rfl ?_
      try simp only [uS_1, uA_1, uF_1, uS_2, uA_2a, uF_2a, Nat.reduceEqDiff, reduceIte, Int.reduceToNat, Int.toNat_natCast]
      refine ev_zreturn dX3_isHere_32 rfl (narrow_zb (bI_o _)) ?_
      exact ⟨_, _, rfl, ⟨rfl, fr.S (fr.refl _ _ _) rfl, hr.right _⟩, hM⟩
    · refine ev_iconstZ dX3_isHere_20 ?_
      refine ev_to (b := bI (b1 && decide (lo1 ≤ hrV c1 p ∧ hrV c1 p ≤ hi1))) (by rw [c5, c17]; rfl) ?_
      refine ev_goto (tgt := 25) dX3_isHere_21 (by decide) ?_
      refine mx_putB hM dX3_isHere_25 gf_X3_231_X3 rfl (bI_o _) (fun h hM => ?_)
      refine ev_aload_n dX3_isHere_28 rfl ?_
      refine mx_getI hM dX3_isHere_29 gf_X3_231_X3 rfl ?_
      try simp only [uS_1, uA_1, uF_1, uS_2, uA_2a, uF_2a, Nat.reduceEqDiff, reduceIte, Int.reduceToNat, Int.toNat_natCast]
      refine ev_zreturn dX3_isHere_32 rfl (narrow_zb (bI_o _)) ?_
      exact ⟨_, _, rfl, ⟨rfl, fr.S (fr.refl _ _ _) rfl, hr.right _⟩, hM⟩
end R1

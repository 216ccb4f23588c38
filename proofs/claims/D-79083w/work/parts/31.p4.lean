/-! the reference: hasNoPiece (printed by gen) -/
section P4
variable {g : GB} {M : MI} {d c k : Nat} {Q : RS → HM → Prop} {pc : Nat} {ls : List (Option Value)} {st : List Value} {h : HM} {a b : Int} {ad : Nat → Nat} {o : Nat} {h0 : HM} {s : MSt}
def hasP (s s' : MSt) (σ : Sp) (l : List Nd) : Prop := s'.1 0 = 0 ∧ TI s' σ ∧ s'.1 14 = 1 ∧ knAt s' (.ok (mean l)) ∧ fr s s' [0, 14, 15, 16, 17, 18, 19, 20, 23] [21, 22, 24, 25, 26, 27, 28, 29, 30, 31, 32, 33, 34]
theorem knAt.ok {s : MSt} {P : Pt} (h : knAt s (.ok P)) : s.1 15 = 0 ∧ ptAt s P ∧ okPt P 0 := h
theorem dn_some {A : Nat → Int} {D : Dn} {l : List Nd} (h : dnAt A D) (hp : D.2.2.2 = some l) : A 42 = 1 ∧ pcAt A l ∧ dtAt A l := by
  have := h.2.2.2.2
  rw [hp] at this
  exact this
theorem dn_none {A : Nat → Int} {D : Dn} (h : dnAt A D) (hp : D.2.2.2 = none) : A 42 = 0 := by
  have := h.2.2.2.2
  rw [hp] at this
  exact this
set_option maxRecDepth 100000 in
set_option maxHeartbeats 4000000 in
theorem k_hasNo0 {code : Int} {σ : Sp} (hM : MX g ad o h0 s h) (hT : TI s σ) (hO : spOk σ) (hp : σ.1.2.2.2 = none) (hd : 8 ≤ d) : Kc g mX3_hasNoPiece d 0 0 [.ref o, vz code] h (mP g ad o h0 (fun v s' => v = some (vz 1) ∧ s'.1 0 = code ∧ TI s' (wReason σ 3))) := by
  refine Kc.of (ls := [some (.ref o), some (vz code)]) (by decide +kernel) (Nat.le_of_ble_eq_true rfl) rfl ?_
  have h42 : s.2 1 42 = 0 := dn_none hT.1 hp
  refine ev_aload_n dX3_hasNoPiece_0 rfl ?_
  refine ev_iconstZ dX3_hasNoPiece_1 ?_
  refine mx_putI hM dX3_hasNoPiece_2 gf_X3_111_X3 rfl (fun h hM => ?_)
  refine ev_aload_n dX3_hasNoPiece_5 rfl ?_
  refine mx_callv dX3_hasNoPiece_6 cv_X3_199_X3 ce_X3_means hM rfl rfl (k_means1 (d := d - 1) (by omega) hM (Or.inr h42) (by have := hT.2.2.2.2.2.2.1; simp only [uS_1]; omega)) (by omega) (Nat.le_of_ble_eq_true rfl) (fun h hM => ?_)
  refine ev_aload_n dX3_hasNoPiece_9 rfl ?_
  refine mx_getA hM dX3_hasNoPiece_10 gf_X3_7_X3 rfl ?_
  refine ev_bipushZ dX3_hasNoPiece_13 rfl ?_
  refine mx_iald hM rfl dX3_hasNoPiece_15 (by omega) ?_
  try simp only [uS_1, uA_1, uF_1, uS_2, uA_2a, uF_2a, Nat.reduceEqDiff, reduceIte, Int.reduceToNat, Int.toNat_natCast]
  rw [h42]
  refine ev_if_neZ (tgt := 26) dX3_hasNoPiece_16 (by decide) (by decide) (fun c => absurd rfl c) (fun _ => ?_)
  refine ev_aload_n dX3_hasNoPiece_19 rfl ?_
  refine ev_iconstZ dX3_hasNoPiece_20 ?_
  refine ev_iload_n dX3_hasNoPiece_21 rfl ?_
  refine mx_call dX3_hasNoPiece_22 cv_X3_202_X3 ce_X3_stops hM rfl rfl (k_stops (d := d - 1) (by omega) hM) (by omega) (Nat.le_of_ble_eq_true rfl) (fun h hM => ?_)
  refine ev_pop dX3_hasNoPiece_25 rfl ?_
  refine ev_aload_n dX3_hasNoPiece_26 rfl ?_
  refine mx_getA hM dX3_hasNoPiece_27 gf_X3_7_X3 rfl ?_
  refine ev_bipushZ dX3_hasNoPiece_30 rfl ?_
  refine mx_iald hM rfl dX3_hasNoPiece_32 (by omega) ?_
  try simp only [uS_1, uA_1, uF_1, uS_2, uA_2a, uF_2a, Nat.reduceEqDiff, reduceIte, Int.reduceToNat, Int.toNat_natCast]
  rw [h42]
  refine ev_if_neZ (tgt := 40) dX3_hasNoPiece_33 (by decide) (by decide) (fun c => absurd rfl c) (fun _ => ?_)
  refine ev_iconstZ dX3_hasNoPiece_36 ?_
  refine ev_goto (tgt := 41) dX3_hasNoPiece_37 (by decide) ?_
  refine ev_zreturn dX3_hasNoPiece_41 rfl (by decide) ?_
  refine ⟨_, _, rfl, ?_, hM⟩
  exact ⟨rfl, rfl, (TI.reason (hT.thrown 0) 3 (by decide)).thrown code⟩
set_option maxRecDepth 100000 in
set_option maxHeartbeats 4000000 in
theorem k_hasNo1 {code : Int} {l : List Nd} {σ : Sp} (hM : MX g ad o h0 s h) (hT : TI s σ) (hO : spOk σ) (hp : σ.1.2.2.2 = some l) (hd : 8 ≤ d) : Kc g mX3_hasNoPiece d 0 0 [.ref o, vz code] h (mP g ad o h0 (fun v s' => v = some (vz 0) ∧ hasP s s' σ l)) := by
  refine Kc.of (ls := [some (.ref o), some (vz code)]) (by decide +kernel) (Nat.le_of_ble_eq_true rfl) rfl ?_
  obtain ⟨h42, hpc, -⟩ := dn_some hT.1 hp
  obtain ⟨hok, hsm⟩ := hO.1.2.2.2.2.2.2 l hp
  have h14 := hT.2.2.2.2.2.2.1
  by_cases k14 : s.1 14 = 0
  · refine ev_aload_n dX3_hasNoPiece_0 rfl ?_
    refine ev_iconstZ dX3_hasNoPiece_1 ?_
    refine mx_putI hM dX3_hasNoPiece_2 gf_X3_111_X3 rfl (fun h hM => ?_)
    refine ev_aload_n dX3_hasNoPiece_5 rfl ?_
    refine mx_callP dX3_hasNoPiece_6 cv_X3_199_X3 ce_X3_means hM rfl rfl (k_means2 (l := l) (d := d - 1) (by omega) hM k14 h42 hpc hok) (by omega) (Nat.le_of_ble_eq_true rfl) (fun v s' h hP hM => ?_)
    obtain ⟨rfl, f1, g14, hk⟩ := hP
    have e1 : s'.2 1 = s.2 1 := f1.2 1 (by decide)
    refine ev_aload_n dX3_hasNoPiece_9 rfl ?_
    refine mx_getA hM dX3_hasNoPiece_10 gf_X3_7_X3 rfl ?_
    refine ev_bipushZ dX3_hasNoPiece_13 rfl ?_
    refine mx_iald hM rfl dX3_hasNoPiece_15 (by omega) ?_
    try simp only [uS_1, uA_1, uF_1, uS_2, uA_2a, uF_2a, Nat.reduceEqDiff, reduceIte, Int.reduceToNat, Int.toNat_natCast]
    rw [e1, h42]
    refine ev_if_neZ (tgt := 26) dX3_hasNoPiece_16 (by decide) (by decide) (fun _ => ?_) (fun c => absurd c (by decide))
    refine ev_aload_n dX3_hasNoPiece_26 rfl ?_
    refine mx_getA hM dX3_hasNoPiece_27 gf_X3_7_X3 rfl ?_
    refine ev_bipushZ dX3_hasNoPiece_30 rfl ?_
    refine mx_iald hM rfl dX3_hasNoPiece_32 (by omega) ?_
    try simp only [uS_1, uA_1, uF_1, uS_2, uA_2a, uF_2a, Nat.reduceEqDiff, reduceIte, Int.reduceToNat, Int.toNat_natCast]
    rw [e1, h42]
    refine ev_if_neZ (tgt := 40) dX3_hasNoPiece_33 (by decide) (by decide) (fun _ => ?_) (fun c => absurd c (by decide))
    refine ev_iconstZ dX3_hasNoPiece_40 ?_
    refine ev_zreturn dX3_hasNoPiece_41 rfl (by decide) ?_
    refine ⟨_, _, rfl, ⟨rfl, ?_⟩, hM⟩
    rw [hsm] at hk
    have hf2 : fr s s' [0, 14, 15, 16, 17, 18, 19, 20, 23] [21, 22, 24, 25, 26, 27, 28, 29, 30, 31, 32, 33, 34] := ((fr.refl s [0, 14, 15, 16, 17, 18, 19, 20, 23] [21, 22, 24, 25, 26, 27, 28, 29, 30, 31, 32, 33, 34]).S (k := 0) (x := 0) rfl).trans (f1.more rfl rfl)
    refine ⟨(f1.1 0 (by decide)), hT.move hf2 rfl rfl ⟨Or.inr g14, fun _ l' hl' => ?_⟩, g14, hk, hf2⟩
    rw [hp] at hl'
    cases hl'
    rw [hsm]
    exact hk
  · refine ev_aload_n dX3_hasNoPiece_0 rfl ?_
    refine ev_iconstZ dX3_hasNoPiece_1 ?_
    refine mx_putI hM dX3_hasNoPiece_2 gf_X3_111_X3 rfl (fun h hM => ?_)
    refine ev_aload_n dX3_hasNoPiece_5 rfl ?_
    refine mx_callv dX3_hasNoPiece_6 cv_X3_199_X3 ce_X3_means hM rfl rfl (k_means1 (d := d - 1) (by omega) hM (Or.inl k14) (by simp only [uS_1]; omega)) (by omega) (Nat.le_of_ble_eq_true rfl) (fun h hM => ?_)
    refine ev_aload_n dX3_hasNoPiece_9 rfl ?_
    refine mx_getA hM dX3_hasNoPiece_10 gf_X3_7_X3 rfl ?_
    refine ev_bipushZ dX3_hasNoPiece_13 rfl ?_
    refine mx_iald hM rfl dX3_hasNoPiece_15 (by omega) ?_
    try simp only [uS_1, uA_1, uF_1, uS_2, uA_2a, uF_2a, Nat.reduceEqDiff, reduceIte, Int.reduceToNat, Int.toNat_natCast]
    rw [h42]
    refine ev_if_neZ (tgt := 26) dX3_hasNoPiece_16 (by decide) (by decide) (fun _ => ?_) (fun c => absurd c (by decide))
    refine ev_aload_n dX3_hasNoPiece_26 rfl ?_
    refine mx_getA hM dX3_hasNoPiece_27 gf_X3_7_X3 rfl ?_
    refine ev_bipushZ dX3_hasNoPiece_30 rfl ?_
    refine mx_iald hM rfl dX3_hasNoPiece_32 (by omega) ?_
    try simp only [uS_1, uA_1, uF_1, uS_2, uA_2a, uF_2a, Nat.reduceEqDiff, reduceIte, Int.reduceToNat, Int.toNat_natCast]
    rw [h42]
    refine ev_if_neZ (tgt := 40) dX3_hasNoPiece_33 (by decide) (by decide) (fun _ => ?_) (fun c => absurd c (by decide))
    refine ev_iconstZ dX3_hasNoPiece_40 ?_
    refine ev_zreturn dX3_hasNoPiece_41 rfl (by decide) ?_
    refine ⟨_, _, rfl, ⟨rfl, ?_⟩, hM⟩
    have hk := hT.2.2.2.2.2.2.2 (by omega) l hp
    rw [hsm] at hk
    exact ⟨rfl, hT.thrown 0, by show s.1 14 = 1; omega, hk.S (k := 0) rfl, (fr.refl s _ _).S (k := 0) rfl⟩
end P4

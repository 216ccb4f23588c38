/-! the reference: ends, means (printed by gen) -/
section M8
variable {g : GB} {M : MI} {d c k : Nat} {Q : RS → HM → Prop} {pc : Nat} {ls : List (Option Value)} {st : List Value} {h : HM} {a b : Int} {ad : Nat → Nat} {o : Nat} {h0 : HM} {s : MSt}
def stkAt (s : MSt) : List Op → Prop
  | [] => True
  | O :: σ => opAt s σ.length O ∧ stkAt s σ
theorem stkAt.fr {s s' : MSt} {K J : List Nat} : ∀ {σ : List Op}, stkAt s σ → fr s s' K J → [24, 25, 26, 27, 28, 29, 30, 31, 32, 33, 34].all (fun x => ! J.contains x) = true → stkAt s' σ := by
  intro σ
  induction σ with
  | nil => intro _ _ _; exact trivial
  | cons O σ ih => intro h hf hj; exact ⟨h.1.fr hf hj, ih h.2 hf hj⟩
theorem stkAt.opFr {s s' : MSt} {o1 : Nat} (hf : opFr s s' o1) : ∀ {σ : List Op}, stkAt s σ → σ.length ≤ o1 → stkAt s' σ := by
  intro σ
  induction σ with
  | nil => intro _ _; exact trivial
  | cons O σ ih =>
    intro h hl
    rw [List.length_cons] at hl
    exact ⟨hf.at (by omega) h.1, ih h.2 (by omega)⟩
def endAt (s' : MSt) (r : Except Er (List Op × Pt)) : Prop := match r with
  | .error e => (s'.1 15 = e.1 ∧ s'.1 16 = e.2) ∧ (e.1 = 1 ∨ e.1 = 2)
  | .ok q => s'.1 15 = 0 ∧ s'.1 23 = q.1.length ∧ stkAt s' q.1 ∧ (q.1 = [] → ptAt s' q.2)
theorem closeE_er {O : Op} {e : Er} (h : closeE O = .error e) : e.1 = 1 ∨ e.1 = 2 := by
  unfold closeE at h
  split at h
  · cases h; exact Or.inl rfl
  · split at h
    · cases h; exact Or.inr rfl
    · cases h
theorem leafE_er {nd : Nd} {e : Er} (h : leafE nd = .error e) : e.1 = 1 ∨ e.1 = 2 := by
  unfold leafE at h
  split at h
  · cases h
  · split at h
    · cases h; exact Or.inl rfl
    · split at h
      · cases h; exact Or.inr rfl
      · cases h
set_option maxRecDepth 100000 in
set_option maxHeartbeats 4000000 in
theorem k_ends0 (hd : 1 ≤ d) (hM : MX g ad o h0 s h) (hw : s.1 15 ≠ 0) (hb : inR (s.1 15) ∧ inR (s.1 23)) : Kc g mX3_ends d 0 0 [.ref o] h (mR g ad o h0 none s) := by
  refine Kc.of (ls := [some (.ref o)]) (by decide +kernel) (Nat.le_of_ble_eq_true rfl) rfl ?_
  refine ev_aload_n dX3_ends_0 rfl ?_
  refine mx_getI hM dX3_ends_1 gf_X3_174_X3 rfl ?_
  try simp only [uS_1, uA_1, uF_1, uS_2, uA_2a, uF_2a, Nat.reduceEqDiff, reduceIte, Int.reduceToNat, Int.toNat_natCast]
  refine ev_if_leZ (tgt := 40) dX3_ends_4 (by decide) (by omega) (fun c4 => ?_) (fun c4 => ?_)
  · refine ev_return dX3_ends_40 rfl ?_
    exact ⟨rfl, hM⟩
  · refine ev_aload_n dX3_ends_7 rfl ?_
    refine mx_getI hM dX3_ends_8 gf_X3_153_X3 rfl ?_
    try simp only [uS_1, uA_1, uF_1, uS_2, uA_2a, uF_2a, Nat.reduceEqDiff, reduceIte, Int.reduceToNat, Int.toNat_natCast]
    refine ev_if_neZ (tgt := 40) dX3_ends_11 (by decide) (by omega) (fun _ => ?_) (fun c => absurd c hw)
    refine ev_return dX3_ends_40 rfl ?_
    exact ⟨rfl, hM⟩
set_option maxRecDepth 100000 in
set_option maxHeartbeats 4000000 in
theorem k_ends {σ : List Op} {P : Pt} (hd : 6 ≤ d) (hM : MX g ad o h0 s h) (h23 : s.1 23 = σ.length) (hst : stkAt s σ) (hS : okS σ) (hl : σ.length ≤ 80) (hP : ptAt s P) (hP2 : okPt P σ.length) (hw : s.1 15 = 0) : Kc g mX3_ends d 0 0 [.ref o] h (mP g ad o h0 (fun v s' => v = none ∧ fr s s' [15, 16, 17, 18, 19, 20, 23] [21, 22, 26, 27, 28, 29, 30, 31, 32, 33, 34] ∧ endAt s' (endM σ (.ok P)))) := by
  refine Kc.of (ls := [some (.ref o)]) (by decide +kernel) (Nat.le_of_ble_eq_true rfl) rfl ?_
  have key : ∀ (σ' : List Op) (P' : Pt) (s1 : MSt) (h : HM), MX g ad o h0 s1 h → fr s s1 [15, 16, 17, 18, 19, 20, 23] [21, 22, 26, 27, 28, 29, 30, 31, 32, 33, 34] → s1.1 23 = σ'.length → stkAt s1 σ' → okS σ' → σ'.length ≤ 80 → ptAt s1 P' → okPt P' σ'.length → s1.1 15 = 0 → endM σ' (.ok P') = endM σ (.ok P) → Ev g mX3_ends d 0 0 (mP g ad o h0 (fun v s' => v = none ∧ fr s s' [15, 16, 17, 18, 19, 20, 23] [21, 22, 26, 27, 28, 29, 30, 31, 32, 33, 34] ∧ endAt s' (endM σ (.ok P)))) 0 [some (.ref o)] [] h := by
    intro σ'
    induction σ' with
    | nil =>
      intro P' s1 h hM hf h23 hst hS hl hP hP2 hw hE
      refine ev_aload_n dX3_ends_0 rfl ?_
      refine mx_getI hM dX3_ends_1 gf_X3_174_X3 rfl ?_
      try simp only [uS_1, uA_1, uF_1, uS_2, uA_2a, uF_2a, Nat.reduceEqDiff, reduceIte, Int.reduceToNat, Int.toNat_natCast]
      rw [h23]
      refine ev_if_leZ (tgt := 40) dX3_ends_4 (by decide) (by decide) (fun _ => ?_) (fun c => absurd (by decide) c)
      refine ev_return dX3_ends_40 rfl ?_
      refine ⟨none, _, rfl, ⟨rfl, hf, ?_⟩, hM⟩
      rw [← hE]
      exact ⟨hw, h23, trivial, fun _ => hP⟩
    | cons O σ' ih =>
      intro P' s1 h hM hf h23 hst hS hl hP hP2 hw hE
      have hP0 := hP
      have hd1 : O.2.1.2.2.1 + σ'.length + 1 ≤ 81 := hS.1.2.2.2.2.2.2.2.2.1
      have hd2 : P'.1.2.2.1 + (σ'.length + 1) ≤ 81 := hP2.2.2.1
      have hx := okOp_last hS.1 hP2
      have hlb : O.1.2.2 < 2000 := by have := hS.1.2.2.2.2.2.2.2.2.2.1; omega
      have hl3 : (mergeO O P').1.2.2 = O.1.2.2 - 1 := rfl
      have hl4 : σ'.length + 1 ≤ 80 := hl
      refine ev_aload_n dX3_ends_0 rfl ?_
      refine mx_getI hM dX3_ends_1 gf_X3_174_X3 rfl ?_
      try simp only [uS_1, uA_1, uF_1, uS_2, uA_2a, uF_2a, Nat.reduceEqDiff, reduceIte, Int.reduceToNat, Int.toNat_natCast]
      rw [h23]
      refine ev_if_leZ (tgt := 40) dX3_ends_4 (by decide) (by simp only [List.length_cons] at hl ⊢; omega) (fun c => absurd c (by simp only [List.length_cons]; omega)) (fun _ => ?_)
      refine ev_aload_n dX3_ends_7 rfl ?_
      refine mx_getI hM dX3_ends_8 gf_X3_153_X3 rfl ?_
      try simp only [uS_1, uA_1, uF_1, uS_2, uA_2a, uF_2a, Nat.reduceEqDiff, reduceIte, Int.reduceToNat, Int.toNat_natCast]
      refine ev_if_neZ (tgt := 40) dX3_ends_11 (by decide) (by omega) (fun c => absurd hw c) (fun _ => ?_)
      refine ev_aload_n dX3_ends_14 rfl ?_
      refine mx_callP dX3_ends_15 cv_X3_193_X3 ce_X3_merges hM rfl rfl (k_merges (o1 := σ'.length) (O := O) (P := P') (d := d - 1) (by omega) hM (by simp only [List.length_cons] at hl; omega) (by rw [h23]; simp) hst.1 hP0 ⟨hS.1.2.1, hS.1.2.2.2.2.1, hS.1.2.2.2.2.2.1, hP2.1, hS.1.2.2.2.2.2.2.1, hP2.2.1, hS.1.2.2.2.2.2.2.2.1, by omega, by omega⟩) (by omega) (Nat.le_of_ble_eq_true rfl) (fun v s' h hP hM => ?_)
      obtain ⟨rfl, f1, hO1, hf1⟩ := hP
      have hf2 : fr s s' [15, 16, 17, 18, 19, 20, 23] [21, 22, 26, 27, 28, 29, 30, 31, 32, 33, 34] := hf.trans (f1.more rfl rfl)
      have h23' : s'.1 23 = (σ'.length : Int) + 1 := by rw [f1.1 23 (by decide), h23]; simp
      have hw1 : s'.1 15 = 0 := (f1.1 15 (by decide)).trans hw
      have hP1 : ptAt s' P' := hP0.fr f1 rfl rfl
      have hst1 : stkAt s' σ' := stkAt.opFr hf1 hst.2 (Nat.le_refl _)
      have hl26 : s'.2 26 σ'.length = ((mergeO O P').1.2.2 : Int) := hO1.2.2.1
      refine ev_aload_n dX3_ends_18 rfl ?_
      refine mx_getA hM dX3_ends_19 gf_X3_48_X3 rfl ?_
      refine ev_aload_n dX3_ends_22 rfl ?_
      refine mx_getI hM dX3_ends_23 gf_X3_174_X3 rfl ?_
      try simp only [uS_1, uA_1, uF_1, uS_2, uA_2a, uF_2a, Nat.reduceEqDiff, reduceIte, Int.reduceToNat, Int.toNat_natCast]
      rw [h23']
      refine ev_iconstZ dX3_ends_26 ?_
      refine ev_isubZ dX3_ends_27 ?_
      refine ev_to (b := (σ'.length : Int)) (by omega) ?_
      refine mx_iald hM rfl dX3_ends_28 (by omega) ?_
      try simp only [uS_1, uA_1, uF_1, uS_2, uA_2a, uF_2a, Nat.reduceEqDiff, reduceIte, Int.reduceToNat, Int.toNat_natCast]
      rw [hl26]
      refine ev_if_leZ (tgt := 33) dX3_ends_29 (by decide) (by omega) (fun c29 => ?_) (fun c29 => ?_)
      · refine ev_aload_n dX3_ends_33 rfl ?_
        refine mx_callP dX3_ends_34 cv_X3_196_X3 ce_X3_closes hM rfl rfl (k_closes (o1 := σ'.length) (O := mergeO O P') (d := d - 1) hM (by simp only [List.length_cons] at hl; omega) h23' hO1 hw1 ⟨hS.1.2.1, hS.1.2.2.1, hS.1.2.2.2.1, hx.1, hx.2.1, hx.2.2.1, hx.2.2.2.1, by omega⟩ (fun e q _ _ => hx.2.2.2.2.2 e q) (by omega)) (by omega) (Nat.le_of_ble_eq_true rfl) (fun v s' h hP hM => ?_)
        obtain ⟨rfl, f3, k23, hme⟩ := hP
        have hf3 := hf2.trans (f3.more (K' := [15, 16, 17, 18, 19, 20, 23]) (J' := [21, 22, 26, 27, 28, 29, 30, 31, 32, 33, 34]) rfl rfl)
        rw [endM_cons, if_neg (by omega)] at hE
        refine ev_goto (tgt := 0) dX3_ends_37 (by decide) ?_
        cases hc : closeE (mergeO O P') with
        | ok P2 =>
          rw [hc] at hme hE
          refine ih P2 _ h hM hf3 k23 ?_ hS.2 (by omega) hme.2 (okPt_close hc hx.2.1 hx.2.2.2.2.1 hx.2.2.2.2.2) hme.1 hE
          exact hst1.fr f3 rfl
        | error e =>
          have he := closeE_er hc
          rw [hc] at hme hE
          rw [endM_error] at hE
          refine ev_aload_n dX3_ends_0 rfl ?_
          refine mx_getI hM dX3_ends_1 gf_X3_174_X3 rfl ?_
          try simp only [uS_1, uA_1, uF_1, uS_2, uA_2a, uF_2a, Nat.reduceEqDiff, reduceIte, Int.reduceToNat, Int.toNat_natCast]
          rw [k23]
          refine ev_if_leZ (tgt := 40) dX3_ends_4 (by decide) (by omega) (fun c4 => ?_) (fun c4 => ?_)
          · refine ev_return dX3_ends_40 rfl ?_
            refine ⟨none, _, rfl, ⟨rfl, hf3, ?_⟩, hM⟩
            rw [← hE]
            exact ⟨hme, he⟩
          · refine ev_aload_n dX3_ends_7 rfl ?_
            refine mx_getI hM dX3_ends_8 gf_X3_153_X3 rfl ?_
            try simp only [uS_1, uA_1, uF_1, uS_2, uA_2a, uF_2a, Nat.reduceEqDiff, reduceIte, Int.reduceToNat, Int.toNat_natCast]
            refine ev_if_neZ (tgt := 40) dX3_ends_11 (by decide) (by have := hme.1; omega) (fun _ => ?_) (fun c => absurd c (by have := hme.1; omega))
            refine ev_return dX3_ends_40 rfl ?_
            refine ⟨none, _, rfl, ⟨rfl, hf3, ?_⟩, hM⟩
            rw [← hE]
            exact ⟨hme, he⟩
      · refine ev_return dX3_ends_32 rfl ?_
        refine ⟨none, _, rfl, ⟨rfl, hf2, ?_⟩, hM⟩
        rw [← hE, endM_cons, if_pos (by omega)]
        exact ⟨hw1, by rw [h23']; simp, ⟨hO1, hst1⟩, fun q => by cases q⟩
  exact key σ P s h hM (fr.refl _ _ _) h23 hst hS hl hP hP2 hw rfl
end M8

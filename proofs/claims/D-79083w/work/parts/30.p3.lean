/-! the reference: calls (printed by gen) -/
section P3
variable {g : GB} {M : MI} {d c k : Nat} {Q : RS → HM → Prop} {pc : Nat} {ls : List (Option Value)} {st : List Value} {h : HM} {a b : Int} {ad : Nat → Nat} {o : Nat} {h0 : HM} {s : MSt}
set_option maxRecDepth 100000 in
set_option maxHeartbeats 4000000 in
theorem k_errorPosition {σ : Sp} (hM : MX g ad o h0 s h) (hT : TI s σ) (hO : spOk σ) (hd : 2 ≤ d) : Kc g mX3_errorPosition d 0 0 [.ref o] h (mP g ad o h0 (mRs (opErr σ))) := by
  refine Kc.of (ls := [some (.ref o)]) (by decide +kernel) (Nat.le_of_ble_eq_true rfl) rfl ?_
  refine ev_aload_n dX3_errorPosition_0 rfl ?_
  refine ev_iconstZ dX3_errorPosition_1 ?_
  refine mx_putI hM dX3_errorPosition_2 gf_X3_111_X3 rfl (fun h hM => ?_)
  refine ev_aload_n dX3_errorPosition_5 rfl ?_
  refine mx_getI hM dX3_errorPosition_6 gf_X3_30_X3 rfl ?_
  try simp only [uS_1, uA_1, uF_1, uS_2, uA_2a, uF_2a, Nat.reduceEqDiff, reduceIte, Int.reduceToNat, Int.toNat_natCast]
  refine ev_iconstZ dX3_errorPosition_9 ?_
  refine ev_icmp_neZ (tgt := 21) dX3_errorPosition_10 (by decide) (by have := hT.2.2.2.2.2.1.2.2.2; omega) (by have := hT.2.2.2.2.2.1.2.2.2; omega) (fun c10 => ?_) (fun c10 => ?_)
  · have hq : ¬ σ.2.2.2.2.2.2 = -1 := by have := hT.2.2.2.2.2.1.2.2.1; omega
    refine ev_aload_n dX3_errorPosition_21 rfl ?_
    refine mx_getI hM dX3_errorPosition_22 gf_X3_30_X3 rfl ?_
    try simp only [uS_1, uA_1, uF_1, uS_2, uA_2a, uF_2a, Nat.reduceEqDiff, reduceIte, Int.reduceToNat, Int.toNat_natCast]
    refine ev_ireturn dX3_errorPosition_25 rfl ?_
    refine ⟨_, _, rfl, ?_, hM⟩
    unfold opErr
    first
      | (rw [if_pos hq]; exact ⟨rfl, hT, rfl⟩)
      | (rw [if_neg hq]; exact ⟨rfl, hT, by rw [hT.2.2.2.2.2.1.2.2.1]⟩)
  · have hq : σ.2.2.2.2.2.2 = -1 := by have := hT.2.2.2.2.2.1.2.2.1; omega
    refine ev_aload_n dX3_errorPosition_13 rfl ?_
    refine ev_iconstZ dX3_errorPosition_14 ?_
    refine mx_call dX3_errorPosition_15 cv_X3_117_X3 ce_X3_fails hM rfl rfl (k_fails (d := d - 1) (by omega) hM) (by omega) (Nat.le_of_ble_eq_true rfl) (fun h hM => ?_)
    refine ev_goto (tgt := 25) dX3_errorPosition_18 (by decide) ?_
    refine ev_ireturn dX3_errorPosition_25 rfl ?_
    refine ⟨_, _, rfl, ?_, hM⟩
    unfold opErr
    first
      | (rw [if_pos hq]; exact ⟨rfl, hT, rfl⟩)
      | (rw [if_neg hq]; exact ⟨rfl, hT, by rw [hT.2.2.2.2.2.1.2.2.1]⟩)
set_option maxRecDepth 100000 in
set_option maxHeartbeats 4000000 in
theorem k_refusedDancer {σ : Sp} (hM : MX g ad o h0 s h) (hT : TI s σ) (hO : spOk σ) (hd : 2 ≤ d) : Kc g mX3_refusedDancer d 0 0 [.ref o] h (mP g ad o h0 (mRs (opRef σ))) := by
  refine Kc.of (ls := [some (.ref o)]) (by decide +kernel) (Nat.le_of_ble_eq_true rfl) rfl ?_
  refine ev_aload_n dX3_refusedDancer_0 rfl ?_
  refine ev_iconstZ dX3_refusedDancer_1 ?_
  refine mx_putI hM dX3_refusedDancer_2 gf_X3_111_X3 rfl (fun h hM => ?_)
  refine ev_aload_n dX3_refusedDancer_5 rfl ?_
  refine mx_getI hM dX3_refusedDancer_6 gf_X3_23_X3 rfl ?_
  try simp only [uS_1, uA_1, uF_1, uS_2, uA_2a, uF_2a, Nat.reduceEqDiff, reduceIte, Int.reduceToNat, Int.toNat_natCast]
  refine ev_iconstZ dX3_refusedDancer_9 ?_
  refine ev_icmp_neZ (tgt := 21) dX3_refusedDancer_10 (by decide) (by have := hT.2.2.2.2.2.1.2.2.2; omega) (by have := hT.2.2.2.2.2.1.2.2.2; omega) (fun c10 => ?_) (fun c10 => ?_)
  · have hq : ¬ σ.2.2.2.2.2.1 = -1 := by have := hT.2.2.2.2.2.1.2.1; omega
    refine ev_aload_n dX3_refusedDancer_21 rfl ?_
    refine mx_getI hM dX3_refusedDancer_22 gf_X3_23_X3 rfl ?_
    try simp only [uS_1, uA_1, uF_1, uS_2, uA_2a, uF_2a, Nat.reduceEqDiff, reduceIte, Int.reduceToNat, Int.toNat_natCast]
    refine ev_ireturn dX3_refusedDancer_25 rfl ?_
    refine ⟨_, _, rfl, ?_, hM⟩
    unfold opRef
    first
      | (rw [if_pos hq]; exact ⟨rfl, hT, rfl⟩)
      | (rw [if_neg hq]; exact ⟨rfl, hT, by rw [hT.2.2.2.2.2.1.2.1]⟩)
  · have hq : σ.2.2.2.2.2.1 = -1 := by have := hT.2.2.2.2.2.1.2.1; omega
    refine ev_aload_n dX3_refusedDancer_13 rfl ?_
    refine ev_iconstZ dX3_refusedDancer_14 ?_
    refine mx_call dX3_refusedDancer_15 cv_X3_117_X3 ce_X3_fails hM rfl rfl (k_fails (d := d - 1) (by omega) hM) (by omega) (Nat.le_of_ble_eq_true rfl) (fun h hM => ?_)
    refine ev_goto (tgt := 25) dX3_refusedDancer_18 (by decide) ?_
    refine ev_ireturn dX3_refusedDancer_25 rfl ?_
    refine ⟨_, _, rfl, ?_, hM⟩
    unfold opRef
    first
      | (rw [if_pos hq]; exact ⟨rfl, hT, rfl⟩)
      | (rw [if_neg hq]; exact ⟨rfl, hT, by rw [hT.2.2.2.2.2.1.2.1]⟩)
set_option maxRecDepth 100000 in
set_option maxHeartbeats 4000000 in
theorem k_reason {σ : Sp} (hM : MX g ad o h0 s h) (hT : TI s σ) (hO : spOk σ) (hd : 1 ≤ d) : Kc g mX3_reason d 0 0 [.ref o] h (mP g ad o h0 (mRs (opReason σ))) := by
  refine Kc.of (ls := [some (.ref o)]) (by decide +kernel) (Nat.le_of_ble_eq_true rfl) rfl ?_
  refine ev_aload_n dX3_reason_0 rfl ?_
  refine ev_iconstZ dX3_reason_1 ?_
  refine mx_putI hM dX3_reason_2 gf_X3_111_X3 rfl (fun h hM => ?_)
  refine ev_aload_n dX3_reason_5 rfl ?_
  refine mx_getI hM dX3_reason_6 gf_X3_114_X3 rfl ?_
  try simp only [uS_1, uA_1, uF_1, uS_2, uA_2a, uF_2a, Nat.reduceEqDiff, reduceIte, Int.reduceToNat, Int.toNat_natCast]
  refine ev_ireturn dX3_reason_9 rfl ?_
  refine ⟨_, _, rfl, ?_, hM⟩
  exact ⟨rfl, hT, by rw [hT.2.2.2.2.2.1.1]; rfl⟩
set_option maxRecDepth 100000 in
set_option maxHeartbeats 4000000 in
theorem k_isReplayed {σ : Sp} (hM : MX g ad o h0 s h) (hT : TI s σ) (hO : spOk σ) (hd : 1 ≤ d) : Kc g mX3_isReplayed d 0 0 [.ref o] h (mP g ad o h0 (mRs (0, 1, σ))) := by
  refine Kc.of (ls := [some (.ref o)]) (by decide +kernel) (Nat.le_of_ble_eq_true rfl) rfl ?_
  refine ev_aload_n dX3_isReplayed_0 rfl ?_
  refine ev_iconstZ dX3_isReplayed_1 ?_
  refine mx_putI hM dX3_isReplayed_2 gf_X3_111_X3 rfl (fun h hM => ?_)
  refine ev_iconstZ dX3_isReplayed_5 ?_
  refine ev_zreturn dX3_isReplayed_6 rfl rfl ?_
  refine ⟨_, _, rfl, ?_, hM⟩
  exact ⟨rfl, hT, rfl⟩
theorem knAt.F {s : MSt} {v : Me} {k : Nat} {A : Nat → Int} (h : knAt s v) (hk : ([21, 22].contains k = false)) : knAt (uF s k A) v := by
  have e21 : (uF s k A).2 21 = s.2 21 := by rw [uF_2, if_neg (fun q => by subst q; simp at hk)]
  have e22 : (uF s k A).2 22 = s.2 22 := by rw [uF_2, if_neg (fun q => by subst q; simp at hk)]
  unfold knAt
  cases v with
  | error e' => exact h
  | ok P =>
    have h' : s.1 15 = 0 ∧ ptAt s P ∧ okPt P 0 := h
    refine ⟨h'.1, ?_, h'.2.2⟩
    have q := h'.2.1
    unfold ptAt at q ⊢
    rw [e21, e22]
    exact q
theorem out_lt {σ : Sp} (hT : TI s σ) {i : Nat} (hi : i < σ.2.2.2.1.2.length) : s.2 12 i = σ.2.2.2.1.2.getD i 0 ∧ σ.2.2.2.1.2.getD i 0 < 256 := by
  have h := hT.2.2.2.2.1.2.2 i (σ.2.2.2.1.2.getD i 0) (by rw [List.getD_eq_getElem?_getD, List.getElem?_eq_getElem hi]; rfl)
  exact h
set_option maxRecDepth 100000 in
set_option maxHeartbeats 4000000 in
theorem k_output {i : Int} {σ : Sp} (hM : MX g ad o h0 s h) (hT : TI s σ) (hO : spOk σ) (hr : inR i) (hd : 2 ≤ d) : Kc g mX3_output d 0 0 [.ref o, vz i] h (mP g ad o h0 (mRs (opOutput σ i))) := by
  refine Kc.of (ls := [some (.ref o), some (vz i)]) (by decide +kernel) (Nat.le_of_ble_eq_true rfl) rfl ?_
  have hlo := hT.2.2.2.2.1.2.1
  refine ev_aload_n dX3_output_0 rfl ?_
  refine ev_iload_n dX3_output_1 rfl ?_
  refine ev_iconstZ dX3_output_2 ?_
  refine ev_aload_n dX3_output_3 rfl ?_
  refine mx_getI hM dX3_output_4 gf_X3_288_X3 rfl ?_
  rw [hT.2.2.2.2.1.1]
  refine ev_iconstZ dX3_output_7 ?_
  refine ev_isubZ dX3_output_8 ?_
  refine ev_callSE dX3_output_9 cs_X3_121 ce_X3_in rfl rfl (k_in (d := d - 1) (by omega) (by omega)) (by omega) (Nat.le_of_ble_eq_true rfl) ?_
  refine ev_if_eqB (tgt := 19) dX3_output_12 (by decide) (fun c12 => ?_) (fun c12 => ?_)
  · refine ev_iconstZ dX3_output_19 ?_
    refine mx_putI hM dX3_output_20 gf_X3_111_X3 rfl (fun h hM => ?_)
    refine ev_aload_n dX3_output_23 rfl ?_
    refine mx_getI hM dX3_output_24 gf_X3_111_X3 rfl ?_
    try simp only [uS_1, uA_1, uF_1, uS_2, uA_2a, uF_2a, Nat.reduceEqDiff, reduceIte, Int.reduceToNat, Int.toNat_natCast]
    refine ev_if_neZ (tgt := 40) dX3_output_27 (by decide) (by decide) (fun _ => ?_) (fun c => absurd c (by decide))
    refine ev_iconstZ dX3_output_40 ?_
    refine ev_zreturn dX3_output_41 rfl (by decide) ?_
    refine ⟨_, _, rfl, ?_, hM⟩
    unfold opOutput
    rw [if_neg (by simp at c12; omega)]
    exact ⟨rfl, hT, rfl⟩
  · have hi0 : 0 ≤ i ∧ i ≤ σ.2.2.2.1.2.length - 1 := by simpa using c12
    refine ev_iconstZ dX3_output_15 ?_
    refine ev_goto (tgt := 20) dX3_output_16 (by decide) ?_
    refine mx_putI hM dX3_output_20 gf_X3_111_X3 rfl (fun h hM => ?_)
    refine ev_aload_n dX3_output_23 rfl ?_
    refine mx_getI hM dX3_output_24 gf_X3_111_X3 rfl ?_
    try simp only [uS_1, uA_1, uF_1, uS_2, uA_2a, uF_2a, Nat.reduceEqDiff, reduceIte, Int.reduceToNat, Int.toNat_natCast]
    refine ev_if_neZ (tgt := 40) dX3_output_27 (by decide) (by decide) (fun c => absurd rfl c) (fun _ => ?_)
    refine ev_aload_n dX3_output_30 rfl ?_
    refine mx_getA hM dX3_output_31 gf_X3_33_X3 rfl ?_
    refine ev_iload_n dX3_output_34 rfl ?_
    refine ev_to (b := ((i.toNat : Nat) : Int)) (by omega) ?_
    refine mx_iald hM rfl dX3_output_35 (by omega) ?_
    try simp only [uS_1, uA_1, uF_1, uS_2, uA_2a, uF_2a, Nat.reduceEqDiff, reduceIte, Int.reduceToNat, Int.toNat_natCast]
    rw [(out_lt hT (i := i.toNat) (by omega)).1]
    refine ev_i2cZ dX3_output_36 (out_lt hT (i := i.toNat) (by omega)).2 ?_
    refine ev_goto (tgt := 41) dX3_output_37 (by decide) ?_
    refine ev_zreturn dX3_output_41 rfl (narrow_c (out_lt hT (i := i.toNat) (by omega)).2) ?_
    refine ⟨_, _, rfl, ?_, hM⟩
    unfold opOutput
    rw [if_pos (by omega)]
    exact ⟨rfl, hT, rfl⟩
theorem getLast_at {α : Type} {l : List α} {D : α} (h : l.getLast? = some D) : l ≠ [] ∧ l[l.length - 1]? = some D ∧ l = l.dropLast ++ [D] := by
  rw [List.getLast?_eq_getElem?] at h
  have hn : l ≠ [] := by intro e; subst e; simp at h
  refine ⟨hn, h, ?_⟩
  have q := List.dropLast_concat_getLast hn
  have e : l.getLast hn = D := by
    have := List.getLast?_eq_some_getLast hn
    rw [List.getLast?_eq_getElem?, h] at this
    exact (Option.some.inj this).symm
  rw [e] at q
  exact q.symm
set_option maxRecDepth 100000 in
set_option maxHeartbeats 4000000 in
theorem k_undo {σ : Sp} (hM : MX g ad o h0 s h) (hT : TI s σ) (hO : spOk σ) (hd : 3 ≤ d) : Kc g mX3_undo d 0 0 [.ref o] h (mP g ad o h0 (mRs (opUndo σ))) := by
  refine Kc.of (ls := [some (.ref o), none]) (by decide +kernel) (Nat.le_of_ble_eq_true rfl) rfl ?_
  have hl8 := hT.2.1.2.1
  refine ev_aload_n dX3_undo_0 rfl ?_
  refine ev_iconstZ dX3_undo_1 ?_
  refine mx_putI hM dX3_undo_2 gf_X3_111_X3 rfl (fun h hM => ?_)
  refine ev_aload_n dX3_undo_5 rfl ?_
  refine mx_getI hM dX3_undo_6 gf_X3_125_X3 rfl ?_
  try simp only [uS_1, uA_1, uF_1, uS_2, uA_2a, uF_2a, Nat.reduceEqDiff, reduceIte, Int.reduceToNat, Int.toNat_natCast]
  rw [hT.2.1.1]
  refine ev_if_neZ (tgt := 20) dX3_undo_9 (by decide) (by omega) (fun c9 => ?_) (fun c9 => ?_)
  · have hn : σ.2.1 ≠ [] := by intro e; rw [e] at c9; exact c9 rfl
    have hlp : 0 < σ.2.1.length := List.length_pos_iff.mpr hn
    refine ev_aload_n dX3_undo_20 rfl ?_
    refine ev_dup dX3_undo_21 rfl ?_
    refine mx_getI hM dX3_undo_22 gf_X3_125_X3 rfl ?_
    try simp only [uS_1, uA_1, uF_1, uS_2, uA_2a, uF_2a, Nat.reduceEqDiff, reduceIte, Int.reduceToNat, Int.toNat_natCast]
    rw [hT.2.1.1]
    refine ev_iconstZ dX3_undo_25 ?_
    refine ev_isubZ dX3_undo_26 ?_
    refine mx_putI hM dX3_undo_27 gf_X3_125_X3 rfl (fun h hM => ?_)
    refine ev_iconstZ dX3_undo_30 ?_
    refine ev_istore_n dX3_undo_31 (by decide) rfl ?_
    dsimp only [List.set]
    refine ev_for (8645) (fun i h => MX g ad o h0 (uF (uS (uS s 0 0) 5 ((σ.2.1.length : Int) - 1)) 1 (fun j => if j < i then s.2 4 (8645 * (σ.2.1.length - 1) + j) else s.2 1 j)) h) (fun i => [some (.ref o), some (vz (i : Int))]) (0) (by omega) (MX.congr2 hM (by intro j _ _; rfl) (by intro j i hj; (try simp only [uS_1, uA_1, uF_1, uS_2, uA_2a, uF_2a, Nat.reduceEqDiff, reduceIte, Int.reduceToNat, Int.toNat_natCast]) <;> grind (splits := 40) [aN1, aN2, aN3, aN4, aN9, aN12, aN21, aN22])) (by repeat' first | exact rfl | exact trivial | exact vz_eq (by omega) | refine And.intro ?_ ?_) (fun i h hi1 hi2 hX hN => ?_) (fun h hX => ?_)
    · clear hM
      have hM : MX g ad o h0 (uF (uS (uS s 0 0) 5 ((σ.2.1.length : Int) - 1)) 1 (fun j => if j < i then s.2 4 (8645 * (σ.2.1.length - 1) + j) else s.2 1 j)) h := hX
      clear hX
      refine ev_iload_n dX3_undo_32 rfl ?_
      refine ev_sipushZ dX3_undo_33 rfl ?_
      refine ev_icmp_geZ (tgt := 66) dX3_undo_36 (by decide) (by omega) (by omega) (fun c36 => absurd c36 (by omega)) (fun c36 => ?_)
      refine ev_aload_n dX3_undo_39 rfl ?_
      refine mx_getA hM dX3_undo_40 gf_X3_7_X3 rfl ?_
      refine ev_iload_n dX3_undo_43 rfl ?_
      refine ev_aload_n dX3_undo_44 rfl ?_
      refine mx_getA hM dX3_undo_45 gf_X3_20_X3 rfl ?_
      refine ev_sipushZ dX3_undo_48 rfl ?_
      refine ev_aload_n dX3_undo_51 rfl ?_
      refine mx_getI hM dX3_undo_52 gf_X3_125_X3 rfl ?_
      try simp only [uS_1, uA_1, uF_1, uS_2, uA_2a, uF_2a, Nat.reduceEqDiff, reduceIte, Int.reduceToNat, Int.toNat_natCast]
      refine ev_imulZ dX3_undo_55 ?_
      refine ev_to (b := ((8645 * (σ.2.1.length - 1) : Nat) : Int)) (by omega) ?_
      refine ev_iload_n dX3_undo_56 rfl ?_
      refine ev_iaddZ dX3_undo_57 ?_
      refine ev_to (b := ((8645 * (σ.2.1.length - 1) + i : Nat) : Int)) (by omega) ?_
      refine mx_iald hM rfl dX3_undo_58 (by omega) ?_
      try simp only [uS_1, uA_1, uF_1, uS_2, uA_2a, uF_2a, Nat.reduceEqDiff, reduceIte, Int.reduceToNat, Int.toNat_natCast]
      refine mx_iast hM rfl dX3_undo_59 (by omega) (fun h hM => ?_)
      refine ev_iincZ dX3_undo_60 rfl (by decide) rfl ?_
      dsimp only [List.set]
      refine ev_goto (tgt := 32) dX3_undo_63 (by decide) ?_
      exact hN _ _ (by repeat' first | exact rfl | exact trivial | exact vz_eq (by omega) | refine And.intro ?_ ?_) (MX.congr2 hM (by intro j _ _; rfl) (by intro j i hj; (try simp only [uS_1, uA_1, uF_1, uS_2, uA_2a, uF_2a, Nat.reduceEqDiff, reduceIte, Int.reduceToNat, Int.toNat_natCast]) <;> grind (splits := 40) [aN1, aN2, aN3, aN4, aN9, aN12, aN21, aN22]))
    · clear hM
      have hM : MX g ad o h0 (uF (uS (uS s 0 0) 5 ((σ.2.1.length : Int) - 1)) 1 (fun j => if j < 8645 then s.2 4 (8645 * (σ.2.1.length - 1) + j) else s.2 1 j)) h := hX
      clear hX
      refine ev_iload_n dX3_undo_32 rfl ?_
      refine ev_sipushZ dX3_undo_33 rfl ?_
      refine ev_icmp_geZ (tgt := 66) dX3_undo_36 (by decide) (by omega) (by omega) (fun c36 => ?_) (fun c36 => absurd (by omega) c36)
      refine ev_aload_n dX3_undo_66 rfl ?_
      refine ev_iconstZ dX3_undo_67 ?_
      refine mx_putB hM dX3_undo_68 gf_X3_128_X3 rfl (by omega) (fun h hM => ?_)
      refine ev_aload_n dX3_undo_71 rfl ?_
      refine mx_getI hM dX3_undo_72 gf_X3_125_X3 rfl ?_
      try simp only [uS_1, uA_1, uF_1, uS_2, uA_2a, uF_2a, Nat.reduceEqDiff, reduceIte, Int.reduceToNat, Int.toNat_natCast]
      refine ev_ireturn dX3_undo_75 rfl ?_
      refine ⟨_, _, rfl, ?_, hM⟩
      have hgl : ∃ D, σ.2.1.getLast? = some D := ⟨_, List.getLast?_eq_some_getLast hn⟩
      obtain ⟨D, hD⟩ := hgl
      obtain ⟨-, hD1, hD2⟩ := getLast_at hD
      unfold opUndo
      rw [hD]
      refine ⟨rfl, ⟨?_, ⟨?_, ?_, fun i E hi => ?_⟩, hT.2.2.1, hT.2.2.2.1, hT.2.2.2.2.1, hT.2.2.2.2.2.1, Or.inl rfl, fun q => by cases q⟩, rfl⟩
      · exact (hT.2.1.2.2 _ D hD1).congr (fun j hj => by simp only [uS_1, uA_1, uF_1, uS_2, uA_2a, uF_2a, Nat.reduceEqDiff, reduceIte, Int.reduceToNat, Int.toNat_natCast]; rw [if_pos hj])
      · show _ = ((σ.2.1.dropLast.length : Nat) : Int); rw [List.length_dropLast]; simp only [uS_1, uA_1, uF_1, uS_2, uA_2a, uF_2a, Nat.reduceEqDiff, reduceIte, Int.reduceToNat, Int.toNat_natCast]; omega
      · show σ.2.1.dropLast.length ≤ 8; rw [List.length_dropLast]; omega
      · have hi2 : σ.2.1.dropLast[i]? = some E := hi
        have hil := lt_of_getE hi2
        exact hT.2.1.2.2 i E (by rw [hD2, List.getElem?_append_left hil]; exact hi2)
  · have hn : σ.2.1 = [] := List.eq_nil_of_length_eq_zero (by omega)
    refine ev_aload_n dX3_undo_12 rfl ?_
    refine ev_bipushZ dX3_undo_13 rfl ?_
    refine ev_iconstZ dX3_undo_15 ?_
    refine mx_call dX3_undo_16 cv_X3_202_X3 ce_X3_stops hM rfl rfl (k_stops (d := d - 1) (by omega) hM) (by omega) (Nat.le_of_ble_eq_true rfl) (fun h hM => ?_)
    refine ev_ireturn dX3_undo_19 rfl ?_
    refine ⟨_, _, rfl, ?_, hM⟩
    unfold opUndo
    rw [hn]
    exact ⟨rfl, (TI.reason hT 6 (by decide)).thrown 1, rfl⟩
set_option maxRecDepth 100000 in
set_option maxHeartbeats 4000000 in
theorem k_snapshot {σ : Sp} (hM : MX g ad o h0 s h) (hT : TI s σ) (hO : spOk σ) (hd : 3 ≤ d) : Kc g mX3_snapshot d 0 0 [.ref o] h (mP g ad o h0 (mRs (opSnap σ))) := by
  refine Kc.of (ls := [some (.ref o), none]) (by decide +kernel) (Nat.le_of_ble_eq_true rfl) rfl ?_
  refine ev_aload_n dX3_snapshot_0 rfl ?_
  refine ev_iconstZ dX3_snapshot_1 ?_
  refine mx_putI hM dX3_snapshot_2 gf_X3_111_X3 rfl (fun h hM => ?_)
  refine ev_iconstZ dX3_snapshot_5 ?_
  refine ev_istore_n dX3_snapshot_6 (by decide) rfl ?_
  dsimp only [List.set]
  refine ev_for (8645) (fun i h => MX g ad o h0 (uF (uS s 0 0) 2 (fun j => if j < i then s.2 1 j else s.2 2 j)) h) (fun i => [some (.ref o), some (vz (i : Int))]) (0) (by omega) (MX.congr2 hM (by intro j _ _; rfl) (by intro j i hj; (try simp only [uS_1, uA_1, uF_1, uS_2, uA_2a, uF_2a, Nat.reduceEqDiff, reduceIte, Int.reduceToNat, Int.toNat_natCast]) <;> grind (splits := 40) [aN1, aN2, aN3, aN4, aN9, aN12, aN21, aN22])) (by repeat' first | exact rfl | exact trivial | exact vz_eq (by omega) | refine And.intro ?_ ?_) (fun i h hi1 hi2 hX hN => ?_) (fun h hX => ?_)
  · clear hM
    have hM : MX g ad o h0 (uF (uS s 0 0) 2 (fun j => if j < i then s.2 1 j else s.2 2 j)) h := hX
    clear hX
    refine ev_iload_n dX3_snapshot_7 rfl ?_
    refine ev_sipushZ dX3_snapshot_8 rfl ?_
    refine ev_icmp_geZ (tgt := 32) dX3_snapshot_11 (by decide) (by omega) (by omega) (fun c11 => absurd c11 (by omega)) (fun c11 => ?_)
    refine ev_aload_n dX3_snapshot_14 rfl ?_
    refine mx_getA hM dX3_snapshot_15 gf_X3_13_X3 rfl ?_
    refine ev_iload_n dX3_snapshot_18 rfl ?_
    refine ev_aload_n dX3_snapshot_19 rfl ?_
    refine mx_getA hM dX3_snapshot_20 gf_X3_7_X3 rfl ?_
    refine ev_iload_n dX3_snapshot_23 rfl ?_
    refine mx_iald hM rfl dX3_snapshot_24 (by omega) ?_
    try simp only [uS_1, uA_1, uF_1, uS_2, uA_2a, uF_2a, Nat.reduceEqDiff, reduceIte, Int.reduceToNat, Int.toNat_natCast]
    refine mx_iast hM rfl dX3_snapshot_25 (by omega) (fun h hM => ?_)
    refine ev_iincZ dX3_snapshot_26 rfl (by decide) rfl ?_
    dsimp only [List.set]
    refine ev_goto (tgt := 7) dX3_snapshot_29 (by decide) ?_
    exact hN _ _ (by repeat' first | exact rfl | exact trivial | exact vz_eq (by omega) | refine And.intro ?_ ?_) (MX.congr2 hM (by intro j _ _; rfl) (by intro j i hj; (try simp only [uS_1, uA_1, uF_1, uS_2, uA_2a, uF_2a, Nat.reduceEqDiff, reduceIte, Int.reduceToNat, Int.toNat_natCast]) <;> grind (splits := 40) [aN1, aN2, aN3, aN4, aN9, aN12, aN21, aN22]))
  · clear hM
    have hM : MX g ad o h0 (uF (uS s 0 0) 2 (fun j => if j < 8645 then s.2 1 j else s.2 2 j)) h := hX
    clear hX
    refine ev_iload_n dX3_snapshot_7 rfl ?_
    refine ev_sipushZ dX3_snapshot_8 rfl ?_
    refine ev_icmp_geZ (tgt := 32) dX3_snapshot_11 (by decide) (by omega) (by omega) (fun c11 => ?_) (fun c11 => absurd (by omega) c11)
    refine ev_aload_n dX3_snapshot_32 rfl ?_
    refine ev_iconstZ dX3_snapshot_33 ?_
    refine mx_putB hM dX3_snapshot_34 gf_X3_413_X3 rfl (by omega) (fun h hM => ?_)
    refine ev_aload_n dX3_snapshot_37 rfl ?_
    refine mx_call dX3_snapshot_38 cv_X3_416_X3 ce_X3_many hM rfl rfl (k_many (D := σ.1) (d := d - 1) hM hT.1 hO.1 (by omega)) (by omega) (Nat.le_of_ble_eq_true rfl) (fun h hM => ?_)
    refine ev_ireturn dX3_snapshot_41 rfl ?_
    refine ⟨_, _, rfl, ?_, hM⟩
    refine ⟨rfl, ⟨hT.1, hT.2.1, ⟨rfl, ?_⟩, hT.2.2.2.1, hT.2.2.2.2.1, hT.2.2.2.2.2.1, hT.2.2.2.2.2.2.1, fun e l hl => ?_⟩, rfl⟩
    · exact hT.1.congr (fun j hj => by simp only [uS_1, uA_1, uF_1, uS_2, uA_2a, uF_2a, Nat.reduceEqDiff, reduceIte, Int.reduceToNat, Int.toNat_natCast]; rw [if_pos hj])
    · have hk := hT.2.2.2.2.2.2.2 e l hl
      exact ((hk.S (k := 0) (x := 0) rfl).F (k := 2) rfl).S (k := 6) rfl
theorem dn_saved {σ : Sp} (hT : TI s σ) {D : Dn} (h : σ.2.2.1 = some D) : s.1 6 = 1 ∧ dnAt (s.2 2) D := by
  have := hT.2.2.1
  rw [h] at this
  exact this
theorem dn_saved0 {σ : Sp} (hT : TI s σ) (h : σ.2.2.1 = none) : s.1 6 = 0 := by
  have := hT.2.2.1
  rw [h] at this
  exact this
set_option maxRecDepth 100000 in
set_option maxHeartbeats 4000000 in
theorem k_restore {σ : Sp} (hM : MX g ad o h0 s h) (hT : TI s σ) (hO : spOk σ) (hd : 3 ≤ d) : Kc g mX3_restore d 0 0 [.ref o] h (mP g ad o h0 (mRs (opRestore σ))) := by
  refine Kc.of (ls := [some (.ref o), none]) (by decide +kernel) (Nat.le_of_ble_eq_true rfl) rfl ?_
  cases hs : σ.2.2.1 with
  | none =>
    refine ev_aload_n dX3_restore_0 rfl ?_
    refine ev_iconstZ dX3_restore_1 ?_
    refine mx_putI hM dX3_restore_2 gf_X3_111_X3 rfl (fun h hM => ?_)
    refine ev_aload_n dX3_restore_5 rfl ?_
    refine mx_getI hM dX3_restore_6 gf_X3_413_X3 rfl ?_
    try simp only [uS_1, uA_1, uF_1, uS_2, uA_2a, uF_2a, Nat.reduceEqDiff, reduceIte, Int.reduceToNat, Int.toNat_natCast]
    rw [dn_saved0 hT hs]
    refine ev_if_neZ (tgt := 20) dX3_restore_9 (by decide) (by decide) (fun c => absurd rfl c) (fun _ => ?_)
    refine ev_aload_n dX3_restore_12 rfl ?_
    refine ev_bipushZ dX3_restore_13 rfl ?_
    refine ev_iconstZ dX3_restore_15 ?_
    refine mx_call dX3_restore_16 cv_X3_202_X3 ce_X3_stops hM rfl rfl (k_stops (d := d - 1) (by omega) hM) (by omega) (Nat.le_of_ble_eq_true rfl) (fun h hM => ?_)
    refine ev_ireturn dX3_restore_19 rfl ?_
    refine ⟨_, _, rfl, ?_, hM⟩
    unfold opRestore
    rw [hs]
    exact ⟨rfl, (TI.reason hT 6 (by decide)).thrown 1, rfl⟩
  | some D =>
    refine ev_aload_n dX3_restore_0 rfl ?_
    refine ev_iconstZ dX3_restore_1 ?_
    refine mx_putI hM dX3_restore_2 gf_X3_111_X3 rfl (fun h hM => ?_)
    refine ev_aload_n dX3_restore_5 rfl ?_
    refine mx_getI hM dX3_restore_6 gf_X3_413_X3 rfl ?_
    try simp only [uS_1, uA_1, uF_1, uS_2, uA_2a, uF_2a, Nat.reduceEqDiff, reduceIte, Int.reduceToNat, Int.toNat_natCast]
    rw [(dn_saved hT hs).1]
    refine ev_if_neZ (tgt := 20) dX3_restore_9 (by decide) (by decide) (fun _ => ?_) (fun c => absurd c (by decide))
    refine ev_iconstZ dX3_restore_20 ?_
    refine ev_istore_n dX3_restore_21 (by decide) rfl ?_
    dsimp only [List.set]
    refine ev_for (8645) (fun i h => MX g ad o h0 (uF (uS s 0 0) 1 (fun j => if j < i then s.2 2 j else s.2 1 j)) h) (fun i => [some (.ref o), some (vz (i : Int))]) (0) (by omega) (MX.congr2 hM (by intro j _ _; rfl) (by intro j i hj; (try simp only [uS_1, uA_1, uF_1, uS_2, uA_2a, uF_2a, Nat.reduceEqDiff, reduceIte, Int.reduceToNat, Int.toNat_natCast]) <;> grind (splits := 40) [aN1, aN2, aN3, aN4, aN9, aN12, aN21, aN22])) (by repeat' first | exact rfl | exact trivial | exact vz_eq (by omega) | refine And.intro ?_ ?_) (fun i h hi1 hi2 hX hN => ?_) (fun h hX => ?_)
    · clear hM
      have hM : MX g ad o h0 (uF (uS s 0 0) 1 (fun j => if j < i then s.2 2 j else s.2 1 j)) h := hX
      clear hX
      refine ev_iload_n dX3_restore_22 rfl ?_
      refine ev_sipushZ dX3_restore_23 rfl ?_
      refine ev_icmp_geZ (tgt := 47) dX3_restore_26 (by decide) (by omega) (by omega) (fun c26 => absurd c26 (by omega)) (fun c26 => ?_)
      refine ev_aload_n dX3_restore_29 rfl ?_
      refine mx_getA hM dX3_restore_30 gf_X3_7_X3 rfl ?_
      refine ev_iload_n dX3_restore_33 rfl ?_
      refine ev_aload_n dX3_restore_34 rfl ?_
      refine mx_getA hM dX3_restore_35 gf_X3_13_X3 rfl ?_
      refine ev_iload_n dX3_restore_38 rfl ?_
      refine mx_iald hM rfl dX3_restore_39 (by omega) ?_
      try simp only [uS_1, uA_1, uF_1, uS_2, uA_2a, uF_2a, Nat.reduceEqDiff, reduceIte, Int.reduceToNat, Int.toNat_natCast]
      refine mx_iast hM rfl dX3_restore_40 (by omega) (fun h hM => ?_)
      refine ev_iincZ dX3_restore_41 rfl (by decide) rfl ?_
      dsimp only [List.set]
      refine ev_goto (tgt := 22) dX3_restore_44 (by decide) ?_
      exact hN _ _ (by repeat' first | exact rfl | exact trivial | exact vz_eq (by omega) | refine And.intro ?_ ?_) (MX.congr2 hM (by intro j _ _; rfl) (by intro j i hj; (try simp only [uS_1, uA_1, uF_1, uS_2, uA_2a, uF_2a, Nat.reduceEqDiff, reduceIte, Int.reduceToNat, Int.toNat_natCast]) <;> grind (splits := 40) [aN1, aN2, aN3, aN4, aN9, aN12, aN21, aN22]))
    · clear hM
      have hM : MX g ad o h0 (uF (uS s 0 0) 1 (fun j => if j < 8645 then s.2 2 j else s.2 1 j)) h := hX
      clear hX
      refine ev_iload_n dX3_restore_22 rfl ?_
      refine ev_sipushZ dX3_restore_23 rfl ?_
      refine ev_icmp_geZ (tgt := 47) dX3_restore_26 (by decide) (by omega) (by omega) (fun c26 => ?_) (fun c26 => absurd (by omega) c26)
      refine ev_aload_n dX3_restore_47 rfl ?_
      refine ev_iconstZ dX3_restore_48 ?_
      refine mx_putI hM dX3_restore_49 gf_X3_125_X3 rfl (fun h hM => ?_)
      refine ev_aload_n dX3_restore_52 rfl ?_
      refine ev_iconstZ dX3_restore_53 ?_
      refine mx_putB hM dX3_restore_54 gf_X3_128_X3 rfl (by omega) (fun h hM => ?_)
      have hA : dnAt ((uS (uS (uF (uS s 0 0) 1 (fun j => if j < 8645 then s.2 2 j else s.2 1 j)) 5 0) 14 0).2 1) D := (dn_saved hT hs).2.congr (fun j hj => by simp only [uS_1, uA_1, uF_1, uS_2, uA_2a, uF_2a, Nat.reduceEqDiff, reduceIte, Int.reduceToNat, Int.toNat_natCast]; rw [if_pos hj])
      refine ev_aload_n dX3_restore_57 rfl ?_
      refine mx_call dX3_restore_58 cv_X3_416_X3 ce_X3_many hM rfl rfl (k_many (D := D) (d := d - 1) hM hA (hO.2.2 D hs) (by omega)) (by omega) (Nat.le_of_ble_eq_true rfl) (fun h hM => ?_)
      refine ev_ireturn dX3_restore_61 rfl ?_
      refine ⟨_, _, rfl, ?_, hM⟩
      unfold opRestore
      rw [hs]
      exact ⟨rfl, ⟨hA, ⟨rfl, Nat.zero_le _, fun i E hi => by simp at hi⟩, hT.2.2.1, hT.2.2.2.1, hT.2.2.2.2.1, hT.2.2.2.2.2.1, Or.inl rfl, fun q => by cases q⟩, rfl⟩
end P3

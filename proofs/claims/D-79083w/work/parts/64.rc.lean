/-! the reference reads (printed by gen) -/
section RC
variable {L1 : Nat → Int} {g : GB} {M : MI} {d c k : Nat} {Q : RS → HM → Prop} {pc : Nat} {ls : List (Option Value)} {st : List Value} {h : HM} {a b : Int} {ad : Nat → Nat} {o : Nat} {h0 : HM} {s : MSt}
theorem TI.keepG {s s1 : MSt} {σ : Sp} {D' : Dn} (h : TI s σ) (e1 : ∀ k, k ∈ [5, 6, 7, 8, 10, 11, 13] → s1.1 k = s.1 k) (e2 : ∀ j, j ∈ [2, 4, 9, 12] → s1.2 j = s.2 j) (h3 : ∀ j, j < 8645 → s1.2 3 j = s.2 1 j) (hA : dnAt (s1.2 1) D') : TI (kepS s1) (keepSp σ D') := by
  obtain ⟨h1, ⟨h5, h8, hh⟩, h6, h10, h13, h7, -⟩ := h
  have k5 : s1.1 5 = σ.2.1.length := (e1 5 (by simp)).trans h5
  have e4 : s1.2 4 = s.2 4 := e2 4 (by simp)
  have q5 : (kepS s1).1 5 = ((if σ.2.1.length = 8 then 8 else σ.2.1.length + 1 : Nat) : Int) := by
    show kpN (s1.1 5) = _
    rw [k5]; exact kpN_nat h8
  have ql : (keepSp σ D').2.1.length = if σ.2.1.length = 8 then 8 else σ.2.1.length + 1 := by
    show ((if σ.2.1.length = 8 then σ.2.1.tail else σ.2.1) ++ [σ.1]).length = _
    split <;> simp [List.length_append] <;> omega
  refine ⟨hA, ⟨by rw [q5, ql], by rw [ql]; split <;> omega, fun i D hi => ?_⟩, ?_, ?_, ?_, ?_, Or.inl rfl, fun q => by cases q⟩
  · have q4 : (kepS s1).2 4 = hisA (s1.2 4) (s1.2 3) (s1.1 5) := rfl
    have hkn : (kpN (s1.1 5)).toNat = if σ.2.1.length = 8 then 8 else σ.2.1.length + 1 := by
      rw [k5, kpN_nat h8]; exact Int.toNat_natCast _
    have hi' : ((if σ.2.1.length = 8 then σ.2.1.tail else σ.2.1) ++ [σ.1])[i]? = some D := hi
    by_cases c8 : σ.2.1.length = 8
    · rw [if_pos c8] at hi' hkn
      have htl : σ.2.1.tail.length = 7 := by rw [List.length_tail]; omega
      by_cases c : i < 7
      · rw [List.getElem?_append_left (by omega), List.getElem?_tail] at hi'
        refine (hh (i + 1) D hi').congr (fun j hj => ?_)
        rw [q4]
        unfold hisA
        rw [hkn, if_neg (by omega), if_pos (by omega), e4]
        exact congrArg (s.2 4) (by omega)
      · have hi7 : i = 7 := by
          have := lt_of_getE hi'
          rw [List.length_append, htl] at this
          simp at this
          omega
        subst hi7
        rw [List.getElem?_append_right (by omega), htl] at hi'
        cases hi'
        refine h1.congr (fun j hj => ?_)
        rw [q4]
        unfold hisA
        rw [hkn, if_pos (by omega), ← h3 j hj]
        exact congrArg (s1.2 3) (by omega)
    · rw [if_neg c8] at hi' hkn
      by_cases c : i < σ.2.1.length
      · rw [List.getElem?_append_left c] at hi'
        refine (hh i D hi').congr (fun j hj => ?_)
        rw [q4]
        unfold hisA
        rw [hkn, if_neg (by omega), if_neg (by omega), e4]
      · have hi7 : i = σ.2.1.length := by
          have := lt_of_getE hi'
          rw [List.length_append] at this
          simp at this
          omega
        rw [List.getElem?_append_right (by omega), hi7, Nat.sub_self] at hi'
        cases hi'
        refine h1.congr (fun j hj => ?_)
        rw [q4]
        unfold hisA
        rw [hkn, if_pos (by omega), ← h3 j hj]
        exact congrArg (s1.2 3) (by omega)
  · show match σ.2.2.1 with
      | none => s1.1 6 = 0
      | some D => s1.1 6 = 1 ∧ dnAt (s1.2 2) D
    rw [e1 6 (by simp), e2 2 (by simp)]
    exact h6
  · show s1.1 10 = _ ∧ _ ∧ ∀ (i x : Nat), _ → s1.2 9 i = x ∧ _
    rw [e1 10 (by simp), e2 9 (by simp)]
    exact h10
  · show s1.1 13 = _ ∧ _ ∧ ∀ (i x : Nat), _ → s1.2 12 i = x ∧ _
    rw [e1 13 (by simp), e2 12 (by simp)]
    exact h13
  · show s1.1 7 = _ ∧ s1.1 8 = _ ∧ s1.1 11 = _ ∧ inR (s1.1 7) ∧ inR (s1.1 8) ∧ inR (s1.1 11)
    rw [e1 7 (by simp), e1 8 (by simp), e1 11 (by simp)]
    exact h7
def inp0 (σ : Sp) : Sp := (σ.1, σ.2.1, σ.2.2.1, ([], σ.2.2.2.1.2), σ.2.2.2.2)
def opRead (σ : Sp) : Rs := match parse σ.2.2.2.1.1 with
  | .error e => (1, 0, (σ.1, σ.2.1, σ.2.2.1, ([], σ.2.2.2.1.2), (σ.2.2.2.2.1, σ.2.2.2.2.2.1, (e : Int))))
  | .ok l => match sem (tidy l) with
    | .error e => (2, 0, (σ.1, σ.2.1, σ.2.2.1, ([], σ.2.2.2.1.2), ((e.1 : Int), (if e.1 = 1 then e.2 else σ.2.2.2.2.2.1), σ.2.2.2.2.2.2)))
    | .ok P => (0, (P.1.1 : Int), keepSp (inp0 σ) (wPiece σ.1 (tidy l)))
theorem TI.read {s s' : MSt} {σ : Sp} (h : TI s σ) (e1 : s'.2 1 = s.2 1) (e2 : ∀ j, j ∈ [2, 4, 12] → s'.2 j = s.2 j) (e3 : ∀ k, k ∈ [5, 6, 13] → s'.1 k = s.1 k) (e4 : s'.1 10 = 0) (e5 : s'.1 14 = 0) {r f e : Int} (e6 : s'.1 7 = r) (e7 : s'.1 8 = f) (e8 : s'.1 11 = e) (i6 : inR r) (i7 : inR f) (i8 : inR e) : TI s' (σ.1, σ.2.1, σ.2.2.1, ([], σ.2.2.2.1.2), (r, f, e)) := by
  obtain ⟨h1, h2, h3, h4, h5, h6, h7⟩ := h
  refine ⟨by rw [e1]; exact h1, ?_, ?_, ⟨by rw [e4]; rfl, by show 0 ≤ 100; omega, fun i x hi => by simp at hi⟩, ?_, ⟨e6, e7, e8, by rw [e6]; exact i6, by rw [e7]; exact i7, by rw [e8]; exact i8⟩, Or.inl e5, fun q => by rw [e5] at q; cases q⟩
  · show s'.1 5 = _ ∧ _ ∧ ∀ (i : Nat) (D : Dn), _ → dnAt (fun j => s'.2 4 (8645 * i + j)) D
    rw [e3 5 (by simp), e2 4 (by simp)]
    exact h2
  · show match σ.2.2.1 with
      | none => s'.1 6 = 0
      | some D => s'.1 6 = 1 ∧ dnAt (s'.2 2) D
    rw [e3 6 (by simp), e2 2 (by simp)]
    exact h3
  · show s'.1 13 = _ ∧ _ ∧ ∀ (i x : Nat), _ → s'.2 12 i = x ∧ _
    rw [e3 13 (by simp), e2 12 (by simp)]
    exact h5
theorem low_le (n : Nat) : low n ≤ 7 := by
  unfold low
  cases h : (List.range 8).find? (fun i => n.testBit i) with
  | none => exact Nat.zero_le _
  | some i =>
    have := List.mem_range.mp (List.mem_of_find?_eq_some h)
    show i ≤ 7
    omega
def erOk (v : Me) : Prop := ∀ e, v = .error e → -1 ≤ e.2 ∧ e.2 ≤ 7
theorem erOk_fold : ∀ (vs : List Me) (r : Except Er Op), (∀ v ∈ vs, erOk v) → (∀ e, r = .error e → -1 ≤ e.2 ∧ e.2 ≤ 7) → ∀ e, vs.foldl mergeE r = .error e → -1 ≤ e.2 ∧ e.2 ≤ 7 := by
  intro vs
  induction vs with
  | nil => intro r _ h e he; exact h e he
  | cons v vs ih =>
    intro r hv h e he
    refine ih (mergeE r v) (fun w hw => hv w (List.mem_cons_of_mem _ hw)) (fun e' he' => ?_) e he
    cases r with
    | error e0 => cases he'; exact h _ rfl
    | ok O =>
      cases v with
      | error e0 => cases he'; exact hv _ List.mem_cons_self _ rfl
      | ok P => cases he'
theorem sem_er : ∀ (n : Nat) (l : List Nd), TR n l → erOk (sem l) := by
  intro n
  induction n with
  | zero => intro l h; exact h.elim
  | succ n ih =>
    intro l h e he
    obtain ⟨nd, cs, rfl, hc, hk, hcs⟩ := h
    rw [sem_node hc hcs] at he
    unfold semA at he
    split at he
    · unfold leafE at he
      split at he
      · cases he
      · split at he
        · cases he; have := low_le (twl nd.2.2.2.1).1; dsimp only; omega
        · split at he
          · cases he; dsimp only; omega
          · cases he
    · unfold closeV at he
      cases hf : (cs.map sem).foldl mergeE (.ok (openO nd)) with
      | error e0 =>
        rw [hf] at he
        cases he
        exact erOk_fold (cs.map sem) (.ok (openO nd)) (fun v hv => by obtain ⟨c, hc1, rfl⟩ := List.mem_map.mp hv; exact ih c (hcs c hc1)) (fun e' he' => by cases he') _ hf
      | ok O =>
        rw [hf] at he
        dsimp only at he
        unfold closeE at he
        split at he
        · cases he; have := low_le O.2.2.1.1; dsimp only; omega
        · split at he
          · cases he; dsimp only; omega
          · cases he
theorem sem_err {l : List Nd} {e : Er} (h : pcOk l) (he : sem l = .error e) : inR e.2 := by
  have := sem_er 81 l h.1 e he
  omega
theorem mem2 {x : Nat} {J : List Nat} (h : J.contains x = false) : x ∉ J := fun q => by
  rw [List.contains_iff_mem.mpr q] at h
  cases h
set_option maxRecDepth 100000 in
set_option maxHeartbeats 4000000 in
theorem k_read {σ : Sp} (hM : MX g ad o h0 s h) (hT : TI s σ) (hO : spOk σ) (hd : 12 ≤ d) : Kc g mX3_read d 0 0 [.ref o] h (mP g ad o h0 (mRs (opRead σ))) := by
  refine Kc.of (ls := [some (.ref o), none]) (by decide +kernel) (Nat.le_of_ble_eq_true rfl) rfl ?_
  refine ev_aload_n dX3_read_0 rfl ?_
  refine ev_iconstZ dX3_read_1 ?_
  refine mx_putI hM dX3_read_2 gf_X3_111_X3 rfl (fun h hM => ?_)
  refine ev_aload_n dX3_read_5 rfl ?_
  refine mx_callv dX3_read_6 cv_X3_208_X3 ce_X3_frames hM rfl rfl (k_frames (d := d - 1) (by omega) hM) (by omega) (Nat.le_of_ble_eq_true rfl) (fun h hM => ?_)
  refine ev_aload_n dX3_read_9 rfl ?_
  refine mx_callP dX3_read_10 cv_X3_279_X3 ce_X3_isText hM rfl rfl (k_isText (c1 := σ.2.2.2.1.1) hM ⟨hT.2.2.2.1.1, hT.2.2.2.1.2.1, hT.2.2.2.1.2.2⟩ (d := d - 1) (by omega)) (by omega) (Nat.le_of_ble_eq_true rfl) (fun v s' h hP hM => ?_)
  obtain ⟨R, rfl, f2, q2, hrc, hR⟩ := hP
  refine ev_istore_n dX3_read_13 (by decide) rfl ?_
  dsimp only [List.set]
  refine ev_aload_n dX3_read_14 rfl ?_
  refine ev_iconstZ dX3_read_15 ?_
  refine mx_putI hM dX3_read_16 gf_X3_225_X3 rfl (fun h hM => ?_)
  refine ev_iload_n dX3_read_19 rfl ?_
  refine ev_if_neB (tgt := 41) dX3_read_20 (by decide) (fun c20 => ?_) (fun c20 => ?_)
  · have c20 : R.1 ≠ 3 := by simpa using c20
    have hR2 : R.1 = 2 := by rcases hR with q | q; exact q.1; exact absurd q.1 c20
    have hok : rmOk σ.2.2.2.1.1 R.2.1 R.2.2.1 R.2.2.2 := by rcases hR with q | q; exact q.2; exact absurd q.1 c20
    have hsim := sim_all σ.2.2.2.1.1
    obtain ⟨l, hpe, hl⟩ : ∃ l, parse σ.2.2.2.1.1 = .ok l ∧ R.2.2.1 = l := by
      cases hx : parse σ.2.2.2.1.1 with
      | error e =>
        rw [hx] at hsim
        obtain ⟨ns, lv, h9⟩ := hsim
        have e9 := rch_fin hrc h9 (by omega) (Nat.le_of_ble_eq_true rfl)
        rw [e9] at hR2
        cases hR2
      | ok l =>
        rw [hx] at hsim
        obtain ⟨lv, h9⟩ := hsim
        exact ⟨l, rfl, by rw [rch_fin hrc h9 (by omega) (Nat.le_of_ble_eq_true rfl)]⟩
    have q3 : psAt _ s' σ.2.2.2.1.1 R.2.1 _ R.2.2.1 _ := q2
    have hrw := q3.2.1
    rw [hl] at hrw
    obtain ⟨o1, o2, o3, -, -, -⟩ := hok
    rw [hl] at o2 o3
    have hc100 := hT.2.2.2.1.2.1
    have hnk := (parse_ok hc100 hpe).2
    have hpk := parse_pcOk hc100 hpe
    refine ev_aload_n dX3_read_41 rfl ?_
    refine mx_callP dX3_read_42 cv_X3_285_X3 ce_X3_tidies hM rfl rfl (k_tidies (l := l) hM hrw (by omega) (fun nd hnd => ⟨(hnk nd hnd).1.1, (hnk nd hnd).1.2.2.1⟩) (d := d - 1) (by omega)) (by omega) (Nat.le_of_ble_eq_true rfl) (fun v s' h hP hM => ?_)
    rename MSt => s4
    obtain ⟨rfl, f4, lo4, h43, h44, hrn⟩ := hP
    obtain ⟨hpc, hdt⟩ := td_dn (by omega) (by omega) h43 h44 hrn
    have hlow : ∀ j, j < 43 → s4.2 1 j = uz (s.2 1) 42 1 j := fun j hj => (lo4 j hj).trans (hrw.2.2.2 j hj)
    have h42 : s4.2 1 42 = 1 := hlow 42 (by omega)
    refine ev_aload_n dX3_read_45 rfl ?_
    refine ev_iconstZ dX3_read_46 ?_
    refine mx_putB hM dX3_read_47 gf_X3_128_X3 rfl (by omega) (fun h hM => ?_)
    refine ev_aload_n dX3_read_50 rfl ?_
    refine mx_callP dX3_read_51 cv_X3_199_X3 ce_X3_means hM rfl rfl (k_means2 (l := tidy l) (d := d - 1) (by omega) hM rfl h42 hpc hpk) (by omega) (Nat.le_of_ble_eq_true rfl) (fun v s' h hP hM => ?_)
    obtain ⟨rfl, f5, g5, hk⟩ := hP
    have fA : fr s s' [0, 10, 14, 15, 16, 17, 18, 19, 20, 23, 35, 36, 37] [1, 3, 21, 22, 24, 25, 26, 27, 28, 29, 30, 31, 32, 33, 34, 38, 39] := (((((((fr.refl s [0, 10, 14, 15, 16, 17, 18, 19, 20, 23, 35, 36, 37] [1, 3, 21, 22, 24, 25, 26, 27, 28, 29, 30, 31, 32, 33, 34, 38, 39]).S rfl).F rfl).trans (f2.more rfl rfl)).S rfl).trans (f4.more rfl rfl)).S rfl).trans (f5.more rfl rfl)
    have k10 : s'.1 10 = 0 := f5.1 10 (by decide) |>.trans (f4.1 10 (by decide))
    cases hse : sem (tidy l) with
    | error e =>
      rw [hse] at hk
      have hk0 := hk.1
      have hk12 := hk.2
      have hiw : inR e.2 := sem_err hpk hse
      refine ev_aload_n dX3_read_54 rfl ?_
      refine mx_getI hM dX3_read_55 gf_X3_153_X3 rfl ?_
      try simp only [uS_1, uA_1, uF_1, uS_2, uA_2a, uF_2a, Nat.reduceEqDiff, reduceIte, Int.reduceToNat, Int.toNat_natCast]
      rw [hk0.1]
      refine ev_if_neZ (tgt := 74) dX3_read_58 (by decide) (by omega) (fun _ => ?_) (fun c => absurd c (by omega))
      refine ev_aload_n dX3_read_74 rfl ?_
      refine ev_aload_n dX3_read_75 rfl ?_
      refine mx_getI hM dX3_read_76 gf_X3_153_X3 rfl ?_
      try simp only [uS_1, uA_1, uF_1, uS_2, uA_2a, uF_2a, Nat.reduceEqDiff, reduceIte, Int.reduceToNat, Int.toNat_natCast]
      rw [hk0.1]
      refine mx_putI hM dX3_read_79 gf_X3_114_X3 rfl (fun h hM => ?_)
      refine ev_aload_n dX3_read_82 rfl ?_
      refine ev_aload_n dX3_read_83 rfl ?_
      refine mx_getI hM dX3_read_84 gf_X3_153_X3 rfl ?_
      try simp only [uS_1, uA_1, uF_1, uS_2, uA_2a, uF_2a, Nat.reduceEqDiff, reduceIte, Int.reduceToNat, Int.toNat_natCast]
      rw [hk0.1]
      refine ev_iconstZ dX3_read_87 ?_
      refine ev_icmp_neZ (tgt := 98) dX3_read_88 (by decide) (by omega) (by omega) (fun c88 => ?_) (fun c88 => ?_)
      · refine ev_aload_n dX3_read_98 rfl ?_
        refine mx_getI hM dX3_read_99 gf_X3_23_X3 rfl ?_
        try simp only [uS_1, uA_1, uF_1, uS_2, uA_2a, uF_2a, Nat.reduceEqDiff, reduceIte, Int.reduceToNat, Int.toNat_natCast]
        rw [(fA.1 8 (by decide)).trans hT.2.2.2.2.2.1.2.1]
        refine mx_putI hM dX3_read_102 gf_X3_23_X3 rfl (fun h hM => ?_)
        refine ev_aload_n dX3_read_105 rfl ?_
        refine mx_callv dX3_read_106 cv_X3_282_X3 ce_X3_backs hM rfl rfl (k_backs (d := d - 1) (by omega) hM) (by omega) (Nat.le_of_ble_eq_true rfl) (fun h hM => ?_)
        refine ev_aload_n dX3_read_109 rfl ?_
        refine ev_iconstZ dX3_read_110 ?_
        refine mx_call dX3_read_111 cv_X3_117_X3 ce_X3_fails hM rfl rfl (k_fails (d := d - 1) (by omega) hM) (by omega) (Nat.le_of_ble_eq_true rfl) (fun h hM => ?_)
        refine ev_ireturn dX3_read_114 rfl ?_
        refine ⟨_, _, rfl, ?_, hM⟩
        unfold opRead
        rw [hpe]
        dsimp only
        rw [hse]
        refine ⟨rfl, ?_, rfl⟩
        obtain ⟨t7, t8, t11, i7, i8, i11⟩ := hT.2.2.2.2.2.1
        rw [t7] at i7
        rw [t8] at i8
        rw [t11] at i11
        refine TI.read hT ?_ (fun j hj => ?_) (fun k hk => ?_) ?_ ?_ ?_ ?_ ?_ (by omega) (by first | (rw [if_pos (by omega)]; exact hiw) | (rw [if_neg (by omega)]; exact i8)) i11
        · simp only [uS_1, uA_1, uF_1, uS_2, uA_2a, uF_2a, Nat.reduceEqDiff, reduceIte, Int.reduceToNat, Int.toNat_natCast]; rw [f5.2 3 (by decide)]; simp only [uS_1, uA_1, uF_1, uS_2, uA_2a, uF_2a, Nat.reduceEqDiff, reduceIte, Int.reduceToNat, Int.toNat_natCast]; rw [f4.2 3 (by decide)]; simp only [uS_1, uA_1, uF_1, uS_2, uA_2a, uF_2a, Nat.reduceEqDiff, reduceIte, Int.reduceToNat, Int.toNat_natCast]; exact f2.2 3 (by decide)
        · have q := fA.2 j (by simp at hj; rcases hj with rfl | rfl | rfl <;> decide)
          simp at hj; rcases hj with rfl | rfl | rfl <;> (simp only [uS_1, uA_1, uF_1, uS_2, uA_2a, uF_2a, Nat.reduceEqDiff, reduceIte, Int.reduceToNat, Int.toNat_natCast]; exact q)
        · have q := fA.1 k (by simp at hk; rcases hk with rfl | rfl | rfl <;> decide)
          simp at hk; rcases hk with rfl | rfl | rfl <;> (simp only [uS_1, uA_1, uF_1, uS_2, uA_2a, uF_2a, Nat.reduceEqDiff, reduceIte, Int.reduceToNat, Int.toNat_natCast]; exact q)
        · simp only [uS_1, uA_1, uF_1, uS_2, uA_2a, uF_2a, Nat.reduceEqDiff, reduceIte, Int.reduceToNat, Int.toNat_natCast]; exact k10
        · simp only [uS_1, uA_1, uF_1, uS_2, uA_2a, uF_2a, Nat.reduceEqDiff, reduceIte, Int.reduceToNat, Int.toNat_natCast]
        · simp only [uS_1, uA_1, uF_1, uS_2, uA_2a, uF_2a, Nat.reduceEqDiff, reduceIte, Int.reduceToNat, Int.toNat_natCast]
        · simp only [uS_1, uA_1, uF_1, uS_2, uA_2a, uF_2a, Nat.reduceEqDiff, reduceIte, Int.reduceToNat, Int.toNat_natCast]; first | (rw [if_pos (by omega)]; done) | (rw [if_neg (by omega)]; done)
        · simp only [uS_1, uA_1, uF_1, uS_2, uA_2a, uF_2a, Nat.reduceEqDiff, reduceIte, Int.reduceToNat, Int.toNat_natCast]; exact (fA.1 11 (by decide)).trans t11
      · refine ev_aload_n dX3_read_91 rfl ?_
        refine mx_getI hM dX3_read_92 gf_X3_156_X3 rfl ?_
        try simp only [uS_1, uA_1, uF_1, uS_2, uA_2a, uF_2a, Nat.reduceEqDiff, reduceIte, Int.reduceToNat, Int.toNat_natCast]
        rw [hk0.2]
        refine ev_goto (tgt := 102) dX3_read_95 (by decide) ?_
        refine mx_putI hM dX3_read_102 gf_X3_23_X3 rfl (fun h hM => ?_)
        refine ev_aload_n dX3_read_105 rfl ?_
        refine mx_callv dX3_read_106 cv_X3_282_X3 ce_X3_backs hM rfl rfl (k_backs (d := d - 1) (by omega) hM) (by omega) (Nat.le_of_ble_eq_true rfl) (fun h hM => ?_)
        refine ev_aload_n dX3_read_109 rfl ?_
        refine ev_iconstZ dX3_read_110 ?_
        refine mx_call dX3_read_111 cv_X3_117_X3 ce_X3_fails hM rfl rfl (k_fails (d := d - 1) (by omega) hM) (by omega) (Nat.le_of_ble_eq_true rfl) (fun h hM => ?_)
        refine ev_ireturn dX3_read_114 rfl ?_
        refine ⟨_, _, rfl, ?_, hM⟩
        unfold opRead
        rw [hpe]
        dsimp only
        rw [hse]
        refine ⟨rfl, ?_, rfl⟩
        obtain ⟨t7, t8, t11, i7, i8, i11⟩ := hT.2.2.2.2.2.1
        rw [t7] at i7
        rw [t8] at i8
        rw [t11] at i11
        refine TI.read hT ?_ (fun j hj => ?_) (fun k hk => ?_) ?_ ?_ ?_ ?_ ?_ (by omega) (by first | (rw [if_pos (by omega)]; exact hiw) | (rw [if_neg (by omega)]; exact i8)) i11
        · simp only [uS_1, uA_1, uF_1, uS_2, uA_2a, uF_2a, Nat.reduceEqDiff, reduceIte, Int.reduceToNat, Int.toNat_natCast]; rw [f5.2 3 (by decide)]; simp only [uS_1, uA_1, uF_1, uS_2, uA_2a, uF_2a, Nat.reduceEqDiff, reduceIte, Int.reduceToNat, Int.toNat_natCast]; rw [f4.2 3 (by decide)]; simp only [uS_1, uA_1, uF_1, uS_2, uA_2a, uF_2a, Nat.reduceEqDiff, reduceIte, Int.reduceToNat, Int.toNat_natCast]; exact f2.2 3 (by decide)
        · have q := fA.2 j (by simp at hj; rcases hj with rfl | rfl | rfl <;> decide)
          simp at hj; rcases hj with rfl | rfl | rfl <;> (simp only [uS_1, uA_1, uF_1, uS_2, uA_2a, uF_2a, Nat.reduceEqDiff, reduceIte, Int.reduceToNat, Int.toNat_natCast]; exact q)
        · have q := fA.1 k (by simp at hk; rcases hk with rfl | rfl | rfl <;> decide)
          simp at hk; rcases hk with rfl | rfl | rfl <;> (simp only [uS_1, uA_1, uF_1, uS_2, uA_2a, uF_2a, Nat.reduceEqDiff, reduceIte, Int.reduceToNat, Int.toNat_natCast]; exact q)
        · simp only [uS_1, uA_1, uF_1, uS_2, uA_2a, uF_2a, Nat.reduceEqDiff, reduceIte, Int.reduceToNat, Int.toNat_natCast]; exact k10
        · simp only [uS_1, uA_1, uF_1, uS_2, uA_2a, uF_2a, Nat.reduceEqDiff, reduceIte, Int.reduceToNat, Int.toNat_natCast]
        · simp only [uS_1, uA_1, uF_1, uS_2, uA_2a, uF_2a, Nat.reduceEqDiff, reduceIte, Int.reduceToNat, Int.toNat_natCast]
        · simp only [uS_1, uA_1, uF_1, uS_2, uA_2a, uF_2a, Nat.reduceEqDiff, reduceIte, Int.reduceToNat, Int.toNat_natCast]; first | (rw [if_pos (by omega)]; done) | (rw [if_neg (by omega)]; done)
        · simp only [uS_1, uA_1, uF_1, uS_2, uA_2a, uF_2a, Nat.reduceEqDiff, reduceIte, Int.reduceToNat, Int.toNat_natCast]; exact (fA.1 11 (by decide)).trans t11
    | ok P =>
      rw [hse] at hk
      have kk := knAt.ok hk
      have hTK : TI (kepS s') (keepSp (inp0 σ) (wPiece σ.1 (tidy l))) := by
        have tt := hT.2.2.2.2.2.1
        have hT0 : TI (uS (uS s 10 0) 14 0) (inp0 σ) := TI.read (s' := uS (uS s 10 0) 14 0) (r := σ.2.2.2.2.1) (f := σ.2.2.2.2.2.1) (e := σ.2.2.2.2.2.2) hT rfl (fun j _ => rfl) (fun k hk => by simp at hk; rcases hk with rfl | rfl | rfl <;> rfl) rfl rfl tt.1 tt.2.1 tt.2.2.1 (by rw [← tt.1]; exact tt.2.2.2.1) (by rw [← tt.2.1]; exact tt.2.2.2.2.1) (by rw [← tt.2.2.1]; exact tt.2.2.2.2.2)
        have e3 : s'.2 3 = s.2 1 := (f5.2 3 (by decide)).trans ((f4.2 3 (by decide)).trans (f2.2 3 (by decide)))
        have e1 := f5.2 1 (by decide)
        refine TI.keepG hT0 (fun k hk => ?_) (fun j hj => ?_) (fun j hj => by rw [e3]; rfl) ?_
        · simp at hk; rcases hk with rfl | rfl | rfl | rfl | rfl | rfl | rfl <;> first | exact fA.1 _ (by decide) | exact k10
        · simp at hj; rcases hj with rfl | rfl | rfl | rfl <;> exact fA.2 _ (by decide)
        · rw [e1]
          have g : ∀ j, j < 42 → (uS s4 14 0).2 1 j = s.2 1 j := fun j hj => (hlow j (by omega)).trans (if_neg (by omega))
          obtain ⟨d1, d2, d3, d4, -⟩ := hT.1
          exact ⟨(g 0 (by omega)).trans d1, (g 1 (by omega)).trans d2, fun e he => (g _ (by omega)).trans (d3 e he), fun f e hf he => (g _ (by omega)).trans (d4 f e hf he), h42, hpc, hdt⟩
      refine ev_aload_n dX3_read_54 rfl ?_
      refine mx_getI hM dX3_read_55 gf_X3_153_X3 rfl ?_
      try simp only [uS_1, uA_1, uF_1, uS_2, uA_2a, uF_2a, Nat.reduceEqDiff, reduceIte, Int.reduceToNat, Int.toNat_natCast]
      rw [kk.1]
      refine ev_if_neZ (tgt := 74) dX3_read_58 (by decide) (by decide) (fun c => absurd rfl c) (fun _ => ?_)
      refine ev_aload_n dX3_read_61 rfl ?_
      refine mx_callv dX3_read_62 cv_X3_211_X3 ce_X3_keeps hM rfl rfl (k_keeps (d := d - 1) (by omega) hM (by rw [(fA.1 5 (by decide)), hT.2.1.1]; have := hT.2.1.2.1; omega)) (by omega) (Nat.le_of_ble_eq_true rfl) (fun h hM => ?_)
      have h42b : (kepS s').2 1 42 = 1 := by show s'.2 1 42 = 1; rw [f5.2 1 (by decide)]; exact h42
      have hpcb : pcAt ((kepS s').2 1) (tidy l) := by show pcAt (s'.2 1) _; rw [f5.2 1 (by decide)]; exact hpc
      have z0 : s'.1 0 = 0 := (f5.1 0 (by decide)).trans ((f4.1 0 (by decide)).trans (f2.1 0 (by decide)))
      refine ev_aload_n dX3_read_65 rfl ?_
      refine mx_callP dX3_read_66 cv_X3_199_X3 ce_X3_means hM rfl rfl (k_means2 (l := tidy l) (d := d - 1) (by omega) hM rfl h42b hpcb hpk) (by omega) (Nat.le_of_ble_eq_true rfl) (fun v s' h hP hM => ?_)
      obtain ⟨rfl, f6, g6, hk6⟩ := hP
      have hk7 := hk6
      rw [hse] at hk7
      obtain ⟨z1, z2, z3⟩ := knAt.ok hk7
      refine ev_aload_n dX3_read_69 rfl ?_
      refine mx_getI hM dX3_read_70 gf_X3_141_X3 rfl ?_
      try simp only [uS_1, uA_1, uF_1, uS_2, uA_2a, uF_2a, Nat.reduceEqDiff, reduceIte, Int.reduceToNat, Int.toNat_natCast]
      rw [z2.1]
      refine ev_ireturn dX3_read_73 rfl ?_
      refine ⟨_, _, rfl, ?_, hM⟩
      unfold opRead
      rw [hpe]
      dsimp only
      rw [hse]
      refine ⟨(f6.1 0 (by decide)).trans z0, ?_, rfl⟩
      exact hTK.move f6 rfl rfl ⟨Or.inr g6, fun _ l' hl' => by cases hl'; exact hk6⟩
  · have c20 : R.1 = 3 := by simpa using c20
    have hRl : R.2.1 ≤ σ.2.2.2.1.1.length := by rcases hR with q | q; exact q.2.1; exact q.2
    have hc100 := hT.2.2.2.1.2.1
    have hsim := sim_all σ.2.2.2.1.1
    obtain ⟨e, hpe, he⟩ : ∃ e, parse σ.2.2.2.1.1 = .error e ∧ R.2.1 = e := by
      cases hx : parse σ.2.2.2.1.1 with
      | ok l =>
        rw [hx] at hsim
        obtain ⟨lv, h9⟩ := hsim
        have e9 := rch_fin hrc h9 (by omega) (Nat.le_of_ble_eq_true rfl)
        rw [e9] at c20
        cases c20
      | error e =>
        rw [hx] at hsim
        obtain ⟨ns, lv, h9⟩ := hsim
        exact ⟨e, rfl, by rw [rch_fin hrc h9 (by omega) (Nat.le_of_ble_eq_true rfl)]⟩
    have hspot : s'.1 35 = (e : Int) := by rw [← he]; exact q2.1.1
    rw [he] at hRl
    refine ev_aload_n dX3_read_23 rfl ?_
    refine ev_aload_n dX3_read_24 rfl ?_
    refine mx_getI hM dX3_read_25 gf_X3_228_X3 rfl ?_
    try simp only [uS_1, uA_1, uF_1, uS_2, uA_2a, uF_2a, Nat.reduceEqDiff, reduceIte, Int.reduceToNat, Int.toNat_natCast]
    rw [hspot]
    refine mx_putI hM dX3_read_28 gf_X3_30_X3 rfl (fun h hM => ?_)
    refine ev_aload_n dX3_read_31 rfl ?_
    refine mx_callv dX3_read_32 cv_X3_282_X3 ce_X3_backs hM rfl rfl (k_backs (d := d - 1) (by omega) hM) (by omega) (Nat.le_of_ble_eq_true rfl) (fun h hM => ?_)
    refine ev_aload_n dX3_read_35 rfl ?_
    refine ev_iconstZ dX3_read_36 ?_
    refine mx_call dX3_read_37 cv_X3_117_X3 ce_X3_fails hM rfl rfl (k_fails (d := d - 1) (by omega) hM) (by omega) (Nat.le_of_ble_eq_true rfl) (fun h hM => ?_)
    refine ev_ireturn dX3_read_40 rfl ?_
    refine ⟨_, _, rfl, ?_, hM⟩
    unfold opRead
    rw [hpe]
    refine ⟨rfl, ?_, rfl⟩
    obtain ⟨t7, t8, t11, i7, i8, i11⟩ := hT.2.2.2.2.2.1
    rw [t7] at i7
    rw [t8] at i8
    refine TI.read hT ?_ (fun j hj => ?_) (fun k hk => ?_) rfl rfl ?_ ?_ ?_ i7 i8 (by omega)
    · simp only [uS_1, uA_1, uF_1, uS_2, uA_2a, uF_2a, Nat.reduceEqDiff, reduceIte, Int.reduceToNat, Int.toNat_natCast]; exact f2.2 3 (by decide)
    · have q := f2.2 j (by simp at hj; rcases hj with rfl | rfl | rfl <;> decide)
      simp at hj; rcases hj with rfl | rfl | rfl <;> (simp only [uS_1, uA_1, uF_1, uS_2, uA_2a, uF_2a, Nat.reduceEqDiff, reduceIte, Int.reduceToNat, Int.toNat_natCast]; exact q)
    · have q := f2.1 k (by simp at hk; rcases hk with rfl | rfl | rfl <;> decide)
      simp at hk; rcases hk with rfl | rfl | rfl <;> (simp only [uS_1, uA_1, uF_1, uS_2, uA_2a, uF_2a, Nat.reduceEqDiff, reduceIte, Int.reduceToNat, Int.toNat_natCast]; exact q)
    · simp only [uS_1, uA_1, uF_1, uS_2, uA_2a, uF_2a, Nat.reduceEqDiff, reduceIte, Int.reduceToNat, Int.toNat_natCast]; exact (f2.1 7 (by decide)).trans t7
    · simp only [uS_1, uA_1, uF_1, uS_2, uA_2a, uF_2a, Nat.reduceEqDiff, reduceIte, Int.reduceToNat, Int.toNat_natCast]; exact (f2.1 8 (by decide)).trans t8
    · simp only [uS_1, uA_1, uF_1, uS_2, uA_2a, uF_2a, Nat.reduceEqDiff, reduceIte, Int.reduceToNat, Int.toNat_natCast]
end RC

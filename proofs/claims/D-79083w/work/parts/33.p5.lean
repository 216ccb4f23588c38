/-! the reference: turned and repeated pieces (printed by gen) -/
section P5
variable {g : GB} {M : MI} {d c k : Nat} {Q : RS → HM → Prop} {pc : Nat} {ls : List (Option Value)} {st : List Value} {h : HM} {a b : Int} {ad : Nat → Nat} {o : Nat} {h0 : HM} {s : MSt}
def wPiece (D : Dn) (l : List Nd) : Dn := (D.1, D.2.1, D.2.2.1, some l)
def noNd : Nd := (0, 0, 0, [], [])
def rootK (l : List Nd) : Nat := (l.headD noNd).1
def opTurn (σ : Sp) (kd : Nat) : Rs := match σ.1.2.2.2 with
  | none => (1, 0, wReason σ 3)
  | some l => if rootK l = kd then (if (mean l).1.2.2.1 > 21 then (1, 0, wReason σ 7) else (0, (l.length : Int) - 1, keepSp σ (wPiece σ.1 l.tail)))
      else if (mean l).1.2.2.1 + 1 > 20 then (1, 0, wReason σ 7) else (0, (l.length : Int) + 1, keepSp σ (wPiece σ.1 (oneNd kd 0 :: l)))
def opRepeat (σ : Sp) (v : Int) : Rs := if 2 ≤ v ∧ v ≤ 9 then (match σ.1.2.2.2 with
  | none => (2, 0, wReason σ 3)
  | some l => if (mean l).1.1 * v.toNat > 99 ∨ (mean l).1.2.2.2 * v.toNat > 999 ∨ (mean l).1.2.2.1 ≥ 20 then (2, 0, wReason σ 7)
      else (0, (((mean l).1.1 * v.toNat : Nat) : Int), keepSp σ (wPiece σ.1 (oneNd 3 v.toNat :: l)))) else (1, 0, σ)
theorem ndAt.shift {A B : Nat → Int} {n m : Nat} {nd : Nd} (hA : ndAt A n nd) (h : ∀ w, w < 6 → B (45 + 6 * m + w) = A (45 + 6 * n + w)) (hd : ∀ j, 6645 ≤ j → B j = A j) : ndAt B m nd := by
  obtain ⟨h1, h2, h3, h4⟩ := hA
  refine ⟨by rw [show 45 + 6 * m = 45 + 6 * m + 0 from rfl, h 0 (by omega)]; exact h1, by rw [h 1 (by omega), h2], by rw [h 2 (by omega), h3], fun hk => ?_⟩
  obtain ⟨p, p1, p2, p3, p4, p5, p6⟩ := h4 hk
  exact ⟨p, by rw [h 3 (by omega), p1], by rw [h 4 (by omega), p2], by rw [h 5 (by omega), p3], p4, fun i hi => by rw [hd _ (by omega), p5 i hi], fun i hi => by rw [hd _ (by omega), p6 i hi]⟩
theorem dn_ins {A : Nat → Int} {D : Dn} {l : List Nd} {nd : Nd} (h : dnAt A D) (hp : D.2.2.2 = some l) (hl : l.length ≤ 900) (h3 : 3 ≤ nd.1) (hm : (mean l).1.1 ≤ (mean (nd :: l)).1.1) : dnAt (insA A nd.1 nd.2.1 nd.2.2.1) (wPiece D (nd :: l)) := by
  obtain ⟨a1, a2, a3⟩ := dn_some h hp
  obtain ⟨h1, h2, h3', h4, -⟩ := h
  have e43 : (A 43).toNat = l.length := by rw [a2.1]; exact Int.toNat_natCast _
  have lo : ∀ j, j < 43 → insA A nd.1 nd.2.1 nd.2.2.1 j = A j := fun j hj => by unfold insA; rw [if_neg (by omega), if_neg (by omega), if_neg (by omega), if_neg (by omega), if_neg (by omega)]
  have hi : ∀ j, 6645 ≤ j → insA A nd.1 nd.2.1 nd.2.2.1 j = A j := fun j hj => by unfold insA; rw [if_neg (by omega), if_neg (by omega), if_neg (by omega), if_neg (by omega), if_neg (by omega)]
  have mid : ∀ i w, i < l.length → w < 6 → insA A nd.1 nd.2.1 nd.2.2.1 (45 + 6 * (i + 1) + w) = A (45 + 6 * i + w) := fun i w hi' hw => by
    unfold insA
    rw [if_neg (by omega), if_neg (by omega), if_neg (by omega), if_neg (by omega), if_pos (by omega)]
    exact congrArg A (by omega)
  refine ⟨(lo 0 (by omega)).trans h1, (lo 1 (by omega)).trans h2, fun e he => (lo _ (by omega)).trans (h3' e he), fun f e hf he => (lo _ (by omega)).trans (h4 f e hf he), (lo 42 (by omega)).trans a1, ⟨?_, ?_, fun i nd' hi' => ?_⟩, ?_⟩
  · unfold insA
    rw [if_pos rfl, a2.1]
    rfl
  · simp only [List.length_cons]; omega
  · cases i with
    | zero =>
      cases hi'
      exact ⟨rfl, rfl, rfl, fun q => by omega⟩
    | succ i => exact (a2.2.2 i nd' hi').shift (fun w hw => mid i w (lt_of_getE hi') hw) hi
  · obtain ⟨m, m1, m2, m3, m4⟩ := a3
    refine ⟨m, by unfold insA; rw [if_neg (by omega), if_neg (by omega), if_neg (by omega), if_neg (by omega), if_neg (by omega)]; exact m1, by omega, fun i nd' hi' hk => ?_, fun i j nd1 nd2 hij h1' h2' hk hk' => ?_⟩
    · cases i with
      | zero => cases hi'; omega
      | succ i =>
        rw [mid i 3 (lt_of_getE hi') (by omega)]
        exact m3 i nd' hi' hk
    · cases i with
      | zero => cases h1'; omega
      | succ i =>
        cases j with
        | zero => omega
        | succ j =>
          rw [mid i 3 (lt_of_getE h1') (by omega), mid j 3 (lt_of_getE h2') (by omega)]
          exact m4 i j nd1 nd2 (by omega) h1' h2' hk hk'
theorem dn_drp {A : Nat → Int} {D : Dn} {l : List Nd} {nd : Nd} (h : dnAt A D) (hp : D.2.2.2 = some (nd :: l)) (hm : (mean (nd :: l)).1.1 ≤ (mean l).1.1) : dnAt (drpA A) (wPiece D l) := by
  obtain ⟨a1, a2, a3⟩ := dn_some h hp
  obtain ⟨h1, h2, h3', h4, -⟩ := h
  have hl := a2.2.1
  rw [List.length_cons] at hl
  have e43 : (A 43).toNat = l.length + 1 := by rw [a2.1]; exact Int.toNat_natCast _
  have lo : ∀ j, j < 43 → drpA A j = A j := fun j hj => by unfold drpA; rw [if_neg (by omega), if_neg (by omega)]
  have hi : ∀ j, 6645 ≤ j → drpA A j = A j := fun j hj => by unfold drpA; rw [if_neg (by omega), if_neg (by omega)]
  have mid : ∀ i w, i < l.length → w < 6 → drpA A (45 + 6 * i + w) = A (45 + 6 * (i + 1) + w) := fun i w hi' hw => by
    unfold drpA
    rw [if_neg (by omega), if_pos (by omega)]
    exact congrArg A (by omega)
  refine ⟨(lo 0 (by omega)).trans h1, (lo 1 (by omega)).trans h2, fun e he => (lo _ (by omega)).trans (h3' e he), fun f e hf he => (lo _ (by omega)).trans (h4 f e hf he), (lo 42 (by omega)).trans a1, ⟨?_, by omega, fun i nd' hi' => ?_⟩, ?_⟩
  · unfold drpA
    rw [if_pos rfl, a2.1, List.length_cons]
    omega
  · exact (a2.2.2 (i + 1) nd' hi').shift (fun w hw => mid i w (lt_of_getE hi') hw) hi
  · obtain ⟨m, m1, m2, m3, m4⟩ := a3
    refine ⟨m, by unfold drpA; rw [if_neg (by omega), if_neg (by omega)]; exact m1, by omega, fun i nd' hi' hk => ?_, fun i j nd1 nd2 hij h1' h2' hk hk' => ?_⟩
    · rw [mid i 3 (lt_of_getE hi') (by omega)]
      exact m3 (i + 1) nd' hi' hk
    · rw [mid i 3 (lt_of_getE h1') (by omega), mid j 3 (lt_of_getE h2') (by omega)]
      exact m4 (i + 1) (j + 1) nd1 nd2 (by omega) h1' h2' hk hk'

set_option maxRecDepth 100000 in
set_option maxHeartbeats 4000000 in
theorem k_turned {kd : Nat} {σ : Sp} (hM : MX g ad o h0 s h) (hT : TI s σ) (hO : spOk σ) (hc : ∀ l, σ.1.2.2.2 = some l → l.length ≤ 800) (hk : kd = 4 ∨ kd = 5) (hd : 9 ≤ d) : Kc g mX3_turned d 0 0 [.ref o, vz (kd : Int)] h (mP g ad o h0 (mRs (opTurn σ kd))) := by
  refine Kc.of (ls := [some (.ref o), some (vz (kd : Int)), none]) (by decide +kernel) (Nat.le_of_ble_eq_true rfl) rfl ?_
  cases hp : σ.1.2.2.2 with
  | none =>
    refine ev_aload_n dX3_turned_0 rfl ?_
    refine ev_iconstZ dX3_turned_1 ?_
    refine mx_callP dX3_turned_2 cv_X3_305_X3 ce_X3_hasNoPiece hM rfl rfl (k_hasNo0 (code := 1) hM hT hO hp (d := d - 1) (by omega)) (by omega) (Nat.le_of_ble_eq_true rfl) (fun v s' h hP hM => ?_)
    obtain ⟨rfl, hP⟩ := hP
    refine ev_if_eqZ (tgt := 10) dX3_turned_5 (by decide) (by decide) (fun c => absurd c (by decide)) (fun _ => ?_)
    refine ev_iconstZ dX3_turned_8 ?_
    refine ev_ireturn dX3_turned_9 rfl ?_
    refine ⟨_, _, rfl, ?_, hM⟩
    unfold opTurn
    rw [hp]
    exact ⟨hP.1, hP.2, rfl⟩
  | some l =>
    refine ev_aload_n dX3_turned_0 rfl ?_
    refine ev_iconstZ dX3_turned_1 ?_
    refine mx_callP dX3_turned_2 cv_X3_305_X3 ce_X3_hasNoPiece hM rfl rfl (k_hasNo1 (code := 1) hM hT hO hp (d := d - 1) (by omega)) (by omega) (Nat.le_of_ble_eq_true rfl) (fun v s' h hP hM => ?_)
    obtain ⟨rfl, hz, hT1, g14, hk1, hf1⟩ := hP
    have hO1 := hO
    obtain ⟨k15, kpt, kok⟩ := hk1.ok
    have k19 := kpt.2.2.1
    obtain ⟨b1, b2, b3⟩ := dn_some hT1.1 hp
    obtain ⟨hok, hsm⟩ := hO.1.2.2.2.2.2.2 l hp
    have hdb : (mean l).1.2.2.1 ≤ 81 := kok.2.2.1
    have hsb := kok.1
    obtain ⟨nd, t, rfl⟩ : ∃ nd t, l = nd :: t := by cases l with | nil => exact absurd rfl hok.1.ne | cons nd t => exact ⟨nd, t, rfl⟩
    have hnd := b2.2.2 0 nd rfl
    have hnk : nd.1 ≤ 7 := (hok.2 nd List.mem_cons_self).1.1
    refine ev_if_eqZ (tgt := 10) dX3_turned_5 (by decide) (by decide) (fun _ => ?_) (fun c => absurd c (by decide))
    refine ev_aload_n dX3_turned_10 rfl ?_
    refine ev_iconstZ dX3_turned_11 ?_
    refine mx_call dX3_turned_12 cv_X3_162_X3 ce_X3_kind hM rfl rfl (k_kindN (n := 0) (x := (nd.1 : Int)) (d := d - 1) (by omega) hM (by omega) hnd.1) (by omega) (Nat.le_of_ble_eq_true rfl) (fun h hM => ?_)
    refine ev_iload_n dX3_turned_15 rfl ?_
    refine ev_icmp_neZ (tgt := 23) dX3_turned_16 (by decide) (by omega) (by omega) (fun c16 => ?_) (fun c16 => ?_)
    · have hk0 : ¬ rootK (nd :: t) = kd := by have : rootK (nd :: t) = nd.1 := rfl; omega
      refine ev_iconstZ dX3_turned_23 ?_
      refine ev_istore_n dX3_turned_24 (by decide) rfl ?_
      dsimp only [List.set]
      refine ev_iload_n dX3_turned_25 rfl ?_
      refine ev_if_eqZ (tgt := 38) dX3_turned_26 (by decide) (by decide) (fun _ => ?_) (fun c => absurd rfl c)
      refine ev_aload_n dX3_turned_38 rfl ?_
      refine mx_getI hM dX3_turned_39 gf_X3_147_X3 rfl ?_
      try simp only [uS_1, uA_1, uF_1, uS_2, uA_2a, uF_2a, Nat.reduceEqDiff, reduceIte, Int.reduceToNat, Int.toNat_natCast]
      rw [k19]
      refine ev_iconstZ dX3_turned_42 ?_
      refine ev_iaddZ dX3_turned_43 ?_
      refine ev_bipushZ dX3_turned_44 rfl ?_
      refine ev_icmp_leZ (tgt := 57) dX3_turned_46 (by decide) (by omega) (by omega) (fun c46 => ?_) (fun c46 => ?_)
      · refine ev_aload_n dX3_turned_57 rfl ?_
        refine mx_callv dX3_turned_58 cv_X3_208_X3 ce_X3_frames hM rfl rfl (k_frames (d := d - 1) (by omega) hM) (by omega) (Nat.le_of_ble_eq_true rfl) (fun h hM => ?_)
        refine ev_iload_n dX3_turned_61 rfl ?_
        refine ev_if_eqZ (tgt := 72) dX3_turned_62 (by decide) (by decide) (fun _ => ?_) (fun c => absurd rfl c)
        refine ev_aload_n dX3_turned_72 rfl ?_
        refine ev_iload_n dX3_turned_73 rfl ?_
        refine ev_iconstZ dX3_turned_74 ?_
        refine ev_iconstZ dX3_turned_75 ?_
        refine mx_callv dX3_turned_76 cv_X3_317_X3 ce_X3_inserts hM rfl rfl (k_inserts (t.length + 1) (by exact b2.1) (by have := hc _ hp; rw [List.length_cons] at this; omega) (kd := (kd : Int)) (v := 0) (ch := 1) hM (d := d - 1) (by omega)) (by omega) (Nat.le_of_ble_eq_true rfl) (fun h hM => ?_)
        refine ev_aload_n dX3_turned_79 rfl ?_
        refine mx_callv dX3_turned_80 cv_X3_211_X3 ce_X3_keeps hM rfl rfl (k_keeps (d := d - 1) (by omega) hM (by simp only [uF_1]; have := hT1.2.1; omega)) (by omega) (Nat.le_of_ble_eq_true rfl) (fun h hM => ?_)
        refine ev_aload_n dX3_turned_83 rfl ?_
        refine mx_getA hM dX3_turned_84 gf_X3_7_X3 rfl ?_
        refine ev_bipushZ dX3_turned_87 rfl ?_
        refine mx_iald hM rfl dX3_turned_89 (by omega) ?_
        try simp only [uS_1, uA_1, uF_1, uS_2, uA_2a, uF_2a, Nat.reduceEqDiff, reduceIte, Int.reduceToNat, Int.toNat_natCast]
        refine ev_ireturn dX3_turned_90 rfl ?_
        refine ⟨_, _, rfl, ?_, hM⟩
        unfold opTurn
        rw [hp]
        dsimp only
        rw [if_neg hk0, if_neg (by omega)]
        obtain ⟨t1, P, t2, t3⟩ := pc_one (k := kd) (v := 0) (by omega) (by omega) (fun q => by omega) hok hsm (by omega) (by omega) (by rw [if_neg (by omega)]; have := kok.2.2.2.1; omega)
        refine ⟨hz, TI.keep hT1 (fr.F (fr.F (fr.refl _ _ _) rfl) rfl) (fun j hj => by simp only [uS_1, uA_1, uF_1, uS_2, uA_2a, uF_2a, Nat.reduceEqDiff, reduceIte, Int.reduceToNat, Int.toNat_natCast]) ?_, ?_⟩
        · refine (dn_ins (nd := oneNd kd 0) hT1.1 hp (by have := hc _ hp; omega) (by show 3 ≤ kd; omega) (by rw [mean_of t2, t3, if_neg (by omega)]; simp)).congr (fun j hj => ?_)
          simp only [uS_1, uA_1, uF_1, uS_2, uA_2a, uF_2a, Nat.reduceEqDiff, reduceIte, Int.reduceToNat, Int.toNat_natCast]
          rfl
        · exact vz_eq (by show insA (s'.2 1) (kd : Int) 0 1 43 = _; unfold insA; rw [if_pos rfl, b2.1])
      · refine ev_aload_n dX3_turned_49 rfl ?_
        refine ev_bipushZ dX3_turned_50 rfl ?_
        refine ev_iconstZ dX3_turned_52 ?_
        refine mx_call dX3_turned_53 cv_X3_202_X3 ce_X3_stops hM rfl rfl (k_stops (d := d - 1) (by omega) hM) (by omega) (Nat.le_of_ble_eq_true rfl) (fun h hM => ?_)
        refine ev_ireturn dX3_turned_56 rfl ?_
        refine ⟨_, _, rfl, ?_, hM⟩
        unfold opTurn
        rw [hp]
        dsimp only
        rw [if_neg hk0, if_pos (by omega)]
        exact ⟨rfl, (TI.reason hT1 7 (by decide)).thrown 1, rfl⟩
    · have hk0 : rootK (nd :: t) = kd := by have : rootK (nd :: t) = nd.1 := rfl; omega
      refine ev_iconstZ dX3_turned_19 ?_
      refine ev_goto (tgt := 24) dX3_turned_20 (by decide) ?_
      refine ev_istore_n dX3_turned_24 (by decide) rfl ?_
      dsimp only [List.set]
      refine ev_iload_n dX3_turned_25 rfl ?_
      refine ev_if_eqZ (tgt := 38) dX3_turned_26 (by decide) (by decide) (fun c => absurd c (by decide)) (fun _ => ?_)
      refine ev_aload_n dX3_turned_29 rfl ?_
      refine mx_getI hM dX3_turned_30 gf_X3_147_X3 rfl ?_
      try simp only [uS_1, uA_1, uF_1, uS_2, uA_2a, uF_2a, Nat.reduceEqDiff, reduceIte, Int.reduceToNat, Int.toNat_natCast]
      rw [k19]
      refine ev_iconstZ dX3_turned_33 ?_
      refine ev_isubZ dX3_turned_34 ?_
      refine ev_goto (tgt := 44) dX3_turned_35 (by decide) ?_
      refine ev_bipushZ dX3_turned_44 rfl ?_
      refine ev_icmp_leZ (tgt := 57) dX3_turned_46 (by decide) (by omega) (by omega) (fun c46 => ?_) (fun c46 => ?_)
      · refine ev_aload_n dX3_turned_57 rfl ?_
        refine mx_callv dX3_turned_58 cv_X3_208_X3 ce_X3_frames hM rfl rfl (k_frames (d := d - 1) (by omega) hM) (by omega) (Nat.le_of_ble_eq_true rfl) (fun h hM => ?_)
        refine ev_iload_n dX3_turned_61 rfl ?_
        refine ev_if_eqZ (tgt := 72) dX3_turned_62 (by decide) (by decide) (fun c => absurd c (by decide)) (fun _ => ?_)
        refine ev_aload_n dX3_turned_65 rfl ?_
        refine mx_callv dX3_turned_66 cv_X3_314_X3 ce_X3_dropsFirst hM rfl rfl (k_dropsFirst (t.length + 1) (by exact b2.1) (by have := hc _ hp; rw [List.length_cons] at this; omega) (by omega) hM (d := d - 1) (by omega)) (by omega) (Nat.le_of_ble_eq_true rfl) (fun h hM => ?_)
        refine ev_goto (tgt := 79) dX3_turned_69 (by decide) ?_
        refine ev_aload_n dX3_turned_79 rfl ?_
        refine mx_callv dX3_turned_80 cv_X3_211_X3 ce_X3_keeps hM rfl rfl (k_keeps (d := d - 1) (by omega) hM (by simp only [uF_1]; have := hT1.2.1; omega)) (by omega) (Nat.le_of_ble_eq_true rfl) (fun h hM => ?_)
        refine ev_aload_n dX3_turned_83 rfl ?_
        refine mx_getA hM dX3_turned_84 gf_X3_7_X3 rfl ?_
        refine ev_bipushZ dX3_turned_87 rfl ?_
        refine mx_iald hM rfl dX3_turned_89 (by omega) ?_
        try simp only [uS_1, uA_1, uF_1, uS_2, uA_2a, uF_2a, Nat.reduceEqDiff, reduceIte, Int.reduceToNat, Int.toNat_natCast]
        refine ev_ireturn dX3_turned_90 rfl ?_
        refine ⟨_, _, rfl, ?_, hM⟩
        unfold opTurn
        rw [hp]
        dsimp only
        rw [if_pos hk0, if_neg (by omega)]
        obtain ⟨t1, P, t2, t3, t4⟩ := pc_tail (by have : rootK (nd :: t) = nd.1 := rfl; omega) hok hsm
        refine ⟨hz, TI.keep hT1 (fr.F (fr.F (fr.refl _ _ _) rfl) rfl) (fun j hj => by simp only [uS_1, uA_1, uF_1, uS_2, uA_2a, uF_2a, Nat.reduceEqDiff, reduceIte, Int.reduceToNat, Int.toNat_natCast]) ?_, ?_⟩
        · refine (dn_drp hT1.1 hp (by rw [mean_of t2, t3]; exact Nat.le_refl _)).congr (fun j hj => ?_)
          simp only [uS_1, uA_1, uF_1, uS_2, uA_2a, uF_2a, Nat.reduceEqDiff, reduceIte, Int.reduceToNat, Int.toNat_natCast]
          rfl
        · show some (vz (_)) = _
          exact vz_eq (by show drpA (s'.2 1) 43 = _; unfold drpA; rw [if_pos rfl, b2.1])
      · refine ev_aload_n dX3_turned_49 rfl ?_
        refine ev_bipushZ dX3_turned_50 rfl ?_
        refine ev_iconstZ dX3_turned_52 ?_
        refine mx_call dX3_turned_53 cv_X3_202_X3 ce_X3_stops hM rfl rfl (k_stops (d := d - 1) (by omega) hM) (by omega) (Nat.le_of_ble_eq_true rfl) (fun h hM => ?_)
        refine ev_ireturn dX3_turned_56 rfl ?_
        refine ⟨_, _, rfl, ?_, hM⟩
        unfold opTurn
        rw [hp]
        dsimp only
        rw [if_pos hk0, if_pos (by omega)]
        exact ⟨rfl, (TI.reason hT1 7 (by decide)).thrown 1, rfl⟩
set_option maxRecDepth 100000 in
set_option maxHeartbeats 4000000 in
theorem k_mirror {σ : Sp} (hM : MX g ad o h0 s h) (hT : TI s σ) (hO : spOk σ) (hc : ∀ l, σ.1.2.2.2 = some l → l.length ≤ 800) (hd : 10 ≤ d) : Kc g mX3_mirror d 0 0 [.ref o] h (mP g ad o h0 (mRs (opTurn σ 4))) := by
  refine Kc.of (ls := [some (.ref o)]) (by decide +kernel) (Nat.le_of_ble_eq_true rfl) rfl ?_
  refine ev_aload_n dX3_mirror_0 rfl ?_
  refine ev_iconstZ dX3_mirror_1 ?_
  refine mx_callP dX3_mirror_2 cv_X3_320_X3 ce_X3_turned hM rfl rfl (k_turned (kd := 4) (d := d - 1) hM hT hO hc (by omega) (by omega)) (by omega) (Nat.le_of_ble_eq_true rfl) (fun v s' h hP hM => ?_)
  obtain ⟨e1, e2, rfl⟩ := hP
  refine ev_ireturn dX3_mirror_5 rfl ?_
  refine ⟨_, _, rfl, ?_, hM⟩
  exact ⟨e1, e2, rfl⟩
set_option maxRecDepth 100000 in
set_option maxHeartbeats 4000000 in
theorem k_reverse {σ : Sp} (hM : MX g ad o h0 s h) (hT : TI s σ) (hO : spOk σ) (hc : ∀ l, σ.1.2.2.2 = some l → l.length ≤ 800) (hd : 10 ≤ d) : Kc g mX3_reverse d 0 0 [.ref o] h (mP g ad o h0 (mRs (opTurn σ 5))) := by
  refine Kc.of (ls := [some (.ref o)]) (by decide +kernel) (Nat.le_of_ble_eq_true rfl) rfl ?_
  refine ev_aload_n dX3_reverse_0 rfl ?_
  refine ev_iconstZ dX3_reverse_1 ?_
  refine mx_callP dX3_reverse_2 cv_X3_320_X3 ce_X3_turned hM rfl rfl (k_turned (kd := 5) (d := d - 1) hM hT hO hc (by omega) (by omega)) (by omega) (Nat.le_of_ble_eq_true rfl) (fun v s' h hP hM => ?_)
  obtain ⟨e1, e2, rfl⟩ := hP
  refine ev_ireturn dX3_reverse_5 rfl ?_
  refine ⟨_, _, rfl, ?_, hM⟩
  exact ⟨e1, e2, rfl⟩
set_option maxRecDepth 100000 in
set_option maxHeartbeats 4000000 in
theorem k_repeat {v : Int} {σ : Sp} (hM : MX g ad o h0 s h) (hT : TI s σ) (hO : spOk σ) (hc : ∀ l, σ.1.2.2.2 = some l → l.length ≤ 800) (hr : inR v) (hd : 9 ≤ d) : Kc g mX3_repeat d 0 0 [.ref o, vz v] h (mP g ad o h0 (mRs (opRepeat σ v))) := by
  refine Kc.of (ls := [some (.ref o), some (vz v)]) (by decide +kernel) (Nat.le_of_ble_eq_true rfl) rfl ?_
  refine ev_aload_n dX3_repeat_0 rfl ?_
  refine ev_iconstZ dX3_repeat_1 ?_
  refine mx_putI hM dX3_repeat_2 gf_X3_111_X3 rfl (fun h hM => ?_)
  refine ev_iload_n dX3_repeat_5 rfl ?_
  refine ev_iconstZ dX3_repeat_6 ?_
  refine ev_bipushZ dX3_repeat_7 rfl ?_
  refine ev_callSE dX3_repeat_9 cs_X3_121 ce_X3_in rfl rfl (k_in (d := d - 1) (by omega) (by omega)) (by omega) (Nat.le_of_ble_eq_true rfl) ?_
  refine ev_if_neB (tgt := 21) dX3_repeat_12 (by decide) (fun c12 => ?_) (fun c12 => ?_)
  · have c12b : 2 ≤ v ∧ v ≤ 9 := by simpa using c12
    cases hp : σ.1.2.2.2 with
    | none =>
      refine ev_aload_n dX3_repeat_21 rfl ?_
      refine ev_iconstZ dX3_repeat_22 ?_
      refine mx_callP dX3_repeat_23 cv_X3_305_X3 ce_X3_hasNoPiece hM rfl rfl (k_hasNo0 (code := 2) hM (hT.thrown 0) hO hp (d := d - 1) (by omega)) (by omega) (Nat.le_of_ble_eq_true rfl) (fun v s' h hP hM => ?_)
      obtain ⟨rfl, hP⟩ := hP
      refine ev_if_eqZ (tgt := 31) dX3_repeat_26 (by decide) (by decide) (fun c => absurd c (by decide)) (fun _ => ?_)
      refine ev_iconstZ dX3_repeat_29 ?_
      refine ev_ireturn dX3_repeat_30 rfl ?_
      refine ⟨_, _, rfl, ?_, hM⟩
      unfold opRepeat
      rw [if_pos c12b, hp]
      exact ⟨hP.1, hP.2, rfl⟩
    | some l =>
      refine ev_aload_n dX3_repeat_21 rfl ?_
      refine ev_iconstZ dX3_repeat_22 ?_
      refine mx_callP dX3_repeat_23 cv_X3_305_X3 ce_X3_hasNoPiece hM rfl rfl (k_hasNo1 (code := 2) hM (hT.thrown 0) hO hp (d := d - 1) (by omega)) (by omega) (Nat.le_of_ble_eq_true rfl) (fun v s' h hP hM => ?_)
      obtain ⟨rfl, hz, hT1, g14, hk1, hf1⟩ := hP
      obtain ⟨k15, kpt, kok⟩ := hk1.ok
      have k17 := kpt.1
      have k19 := kpt.2.2.1
      have k20 := kpt.2.2.2.1
      obtain ⟨b1, b2, b3⟩ := dn_some hT1.1 hp
      obtain ⟨hok, hsm⟩ := hO.1.2.2.2.2.2.2 l hp
      have hdb : (mean l).1.2.2.1 ≤ 81 := kok.2.2.1
      have hsb := kok.1
      have hcb := kok.2.2.2.1
      obtain ⟨w, rfl⟩ : ∃ w : Nat, v = (w : Int) := ⟨v.toNat, by omega⟩
      have hm1 : (mean l).1.1 * w ≤ 99 * 9 := Nat.mul_le_mul hsb (by omega)
      have hm2 : (mean l).1.2.2.2 * w ≤ 999 * 9 := Nat.mul_le_mul hcb (by omega)
      refine ev_if_eqZ (tgt := 31) dX3_repeat_26 (by decide) (by decide) (fun _ => ?_) (fun c => absurd c (by decide))
      refine ev_aload_n dX3_repeat_31 rfl ?_
      refine mx_getI hM dX3_repeat_32 gf_X3_141_X3 rfl ?_
      try simp only [uS_1, uA_1, uF_1, uS_2, uA_2a, uF_2a, Nat.reduceEqDiff, reduceIte, Int.reduceToNat, Int.toNat_natCast]
      rw [k17]
      refine ev_iload_n dX3_repeat_35 rfl ?_
      refine ev_imulZ dX3_repeat_36 ?_
      refine ev_to (b := (((mean l).1.1 * w : Nat) : Int)) (by push_cast; rfl) ?_
      refine ev_bipushZ dX3_repeat_37 rfl ?_
      refine ev_icmp_gtZ (tgt := 63) dX3_repeat_39 (by decide) (by omega) (by omega) (fun c39 => ?_) (fun c39 => ?_)
      · refine ev_aload_n dX3_repeat_63 rfl ?_
        refine ev_bipushZ dX3_repeat_64 rfl ?_
        refine ev_iconstZ dX3_repeat_66 ?_
        refine mx_call dX3_repeat_67 cv_X3_202_X3 ce_X3_stops hM rfl rfl (k_stops (d := d - 1) (by omega) hM) (by omega) (Nat.le_of_ble_eq_true rfl) (fun h hM => ?_)
        refine ev_ireturn dX3_repeat_70 rfl ?_
        refine ⟨_, _, rfl, ?_, hM⟩
        unfold opRepeat
        rw [if_pos c12b, hp]
        dsimp only
        rw [if_pos (by simp only [Int.toNat_natCast]; omega)]
        exact ⟨rfl, (TI.reason hT1 7 (by decide)).thrown 2, rfl⟩
      · refine ev_aload_n dX3_repeat_42 rfl ?_
        refine mx_getI hM dX3_repeat_43 gf_X3_150_X3 rfl ?_
        try simp only [uS_1, uA_1, uF_1, uS_2, uA_2a, uF_2a, Nat.reduceEqDiff, reduceIte, Int.reduceToNat, Int.toNat_natCast]
        rw [k20]
        refine ev_iload_n dX3_repeat_46 rfl ?_
        refine ev_imulZ dX3_repeat_47 ?_
        refine ev_to (b := (((mean l).1.2.2.2 * w : Nat) : Int)) (by push_cast; rfl) ?_
        refine ev_sipushZ dX3_repeat_48 rfl ?_
        refine ev_icmp_gtZ (tgt := 63) dX3_repeat_51 (by decide) (by omega) (by omega) (fun c51 => ?_) (fun c51 => ?_)
        · refine ev_aload_n dX3_repeat_63 rfl ?_
          refine ev_bipushZ dX3_repeat_64 rfl ?_
          refine ev_iconstZ dX3_repeat_66 ?_
          refine mx_call dX3_repeat_67 cv_X3_202_X3 ce_X3_stops hM rfl rfl (k_stops (d := d - 1) (by omega) hM) (by omega) (Nat.le_of_ble_eq_true rfl) (fun h hM => ?_)
          refine ev_ireturn dX3_repeat_70 rfl ?_
          refine ⟨_, _, rfl, ?_, hM⟩
          unfold opRepeat
          rw [if_pos c12b, hp]
          dsimp only
          rw [if_pos (by simp only [Int.toNat_natCast]; omega)]
          exact ⟨rfl, (TI.reason hT1 7 (by decide)).thrown 2, rfl⟩
        · refine ev_aload_n dX3_repeat_54 rfl ?_
          refine mx_getI hM dX3_repeat_55 gf_X3_147_X3 rfl ?_
          try simp only [uS_1, uA_1, uF_1, uS_2, uA_2a, uF_2a, Nat.reduceEqDiff, reduceIte, Int.reduceToNat, Int.toNat_natCast]
          rw [k19]
          refine ev_bipushZ dX3_repeat_58 rfl ?_
          refine ev_icmp_ltZ (tgt := 71) dX3_repeat_60 (by decide) (by omega) (by omega) (fun c60 => ?_) (fun c60 => ?_)
          · refine ev_aload_n dX3_repeat_71 rfl ?_
            refine mx_callv dX3_repeat_72 cv_X3_208_X3 ce_X3_frames hM rfl rfl (k_frames (d := d - 1) (by omega) hM) (by omega) (Nat.le_of_ble_eq_true rfl) (fun h hM => ?_)
            refine ev_aload_n dX3_repeat_75 rfl ?_
            refine ev_iconstZ dX3_repeat_76 ?_
            refine ev_iload_n dX3_repeat_77 rfl ?_
            refine ev_iconstZ dX3_repeat_78 ?_
            refine mx_callv dX3_repeat_79 cv_X3_317_X3 ce_X3_inserts hM rfl rfl (k_inserts l.length (by exact b2.1) (by have := hc _ hp; omega) (kd := 3) (v := (w : Int)) (ch := 1) hM (d := d - 1) (by omega)) (by omega) (Nat.le_of_ble_eq_true rfl) (fun h hM => ?_)
            refine ev_aload_n dX3_repeat_82 rfl ?_
            refine mx_callv dX3_repeat_83 cv_X3_211_X3 ce_X3_keeps hM rfl rfl (k_keeps (d := d - 1) (by omega) hM (by simp only [uF_1]; have := hT1.2.1; omega)) (by omega) (Nat.le_of_ble_eq_true rfl) (fun h hM => ?_)
            obtain ⟨t1, P, t2, t3⟩ := pc_one (k := 3) (v := w) (by omega) (by omega) (fun q => by omega) hok hsm (by omega) (by omega) (by rw [if_pos rfl]; omega)
            have hK := TI.keep (D' := wPiece σ.1 (oneNd 3 w :: l)) hT1 (s1 := uF (uF s' 3 (s'.2 1)) 1 (insA (s'.2 1) 3 w 1)) (fr.F (fr.F (fr.refl _ _ _) rfl) rfl) (fun j hj => by simp only [uS_1, uA_1, uF_1, uS_2, uA_2a, uF_2a, Nat.reduceEqDiff, reduceIte, Int.reduceToNat, Int.toNat_natCast]) (by refine (dn_ins (nd := oneNd 3 w) hT1.1 hp (by have := hc _ hp; omega) (by show 3 ≤ 3; omega) (by rw [mean_of t2, t3, if_pos rfl]; exact Nat.le_mul_of_pos_right _ (by omega))).congr (fun j hj => ?_); simp only [uS_1, uA_1, uF_1, uS_2, uA_2a, uF_2a, Nat.reduceEqDiff, reduceIte, Int.reduceToNat, Int.toNat_natCast]; rfl)
            obtain ⟨d1, d2, d3⟩ := dn_some hK.1 rfl
            refine ev_aload_n dX3_repeat_86 rfl ?_
            refine mx_callP dX3_repeat_87 cv_X3_199_X3 ce_X3_means hM rfl rfl (k_means2 (l := oneNd 3 w :: l) (d := d - 1) (by omega) hM rfl d1 d2 t1) (by omega) (Nat.le_of_ble_eq_true rfl) (fun v s' h hP hM => ?_)
            obtain ⟨rfl, f2, g14b, hk2⟩ := hP
            rw [t2] at hk2
            have k17b := hk2.ok.2.1.1
            refine ev_aload_n dX3_repeat_90 rfl ?_
            refine mx_getI hM dX3_repeat_91 gf_X3_141_X3 rfl ?_
            try simp only [uS_1, uA_1, uF_1, uS_2, uA_2a, uF_2a, Nat.reduceEqDiff, reduceIte, Int.reduceToNat, Int.toNat_natCast]
            rw [k17b]
            refine ev_ireturn dX3_repeat_94 rfl ?_
            refine ⟨_, _, rfl, ?_, hM⟩
            unfold opRepeat
            rw [if_pos c12b, hp]
            dsimp only
            rw [if_neg (by simp only [Int.toNat_natCast]; omega)]
            refine ⟨((f2.1 0 (by decide)).trans hz), ?_, ?_⟩
            · refine hK.move f2 rfl rfl ⟨Or.inr g14b, fun _ l' hl' => ?_⟩
              cases hl'
              rw [t2]
              exact hk2
            · rw [t3, if_pos rfl]; rfl
          · refine ev_aload_n dX3_repeat_63 rfl ?_
            refine ev_bipushZ dX3_repeat_64 rfl ?_
            refine ev_iconstZ dX3_repeat_66 ?_
            refine mx_call dX3_repeat_67 cv_X3_202_X3 ce_X3_stops hM rfl rfl (k_stops (d := d - 1) (by omega) hM) (by omega) (Nat.le_of_ble_eq_true rfl) (fun h hM => ?_)
            refine ev_ireturn dX3_repeat_70 rfl ?_
            refine ⟨_, _, rfl, ?_, hM⟩
            unfold opRepeat
            rw [if_pos c12b, hp]
            dsimp only
            rw [if_pos (by simp only [Int.toNat_natCast]; omega)]
            exact ⟨rfl, (TI.reason hT1 7 (by decide)).thrown 2, rfl⟩
  · refine ev_aload_n dX3_repeat_15 rfl ?_
    refine ev_iconstZ dX3_repeat_16 ?_
    refine mx_call dX3_repeat_17 cv_X3_117_X3 ce_X3_fails hM rfl rfl (k_fails (d := d - 1) (by omega) hM) (by omega) (Nat.le_of_ble_eq_true rfl) (fun h hM => ?_)
    refine ev_ireturn dX3_repeat_20 rfl ?_
    refine ⟨_, _, rfl, ?_, hM⟩
    unfold opRepeat
    rw [if_neg (by simp at c12; omega)]
    exact ⟨rfl, hT, rfl⟩
end P5

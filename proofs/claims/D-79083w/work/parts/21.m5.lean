/-! the reference: merges (printed by gen) -/
section M5
variable {g : GB} {M : MI} {d c k : Nat} {Q : RS → HM → Prop} {pc : Nat} {ls : List (Option Value)} {st : List Value} {h : HM} {a b : Int} {ad : Nat → Nat} {o : Nat} {h0 : HM} {s : MSt}
theorem mFrom_lay {O : Op} (h : O.1.1 = 6) : mFrom O = 0 := if_pos h
theorem mFrom_ser {O : Op} (h : ¬ O.1.1 = 6) : mFrom O = O.2.1.1 := if_neg h
theorem arr_in {A : Nat → Int} {o1 i F j x : Nat} {f g : Nat → Nat → Nat} (hA : ∀ e q : Nat, e < 8 → q < 100 → A (800 * o1 + 100 * e + q) = ((if e < i ∨ (e = i ∧ q < F + j) then f e q else g e q : Nat) : Int)) (hj : F + j < 100) (hx : f i (F + j) = x) : ∀ e q : Nat, e < 8 → q < 100 → uz A (800 * o1 + 100 * i + F + j) (x : Int) (800 * o1 + 100 * e + q) = ((if e < i ∨ (e = i ∧ q < F + (j + 1)) then f e q else g e q : Nat) : Int) := by
  intro e q he hq
  have h := hA e q he hq
  unfold uz
  by_cases hc : e = i ∧ q = F + j
  · obtain ⟨rfl, rfl⟩ := hc
    rw [if_pos (by omega), if_pos (by omega), hx]
  · rw [if_neg (by omega), h]
    by_cases h2 : e < i ∨ (e = i ∧ q < F + j)
    · rw [if_pos h2, if_pos (by omega)]
    · rw [if_neg h2, if_neg (by omega)]
theorem arr_in0 {A : Nat → Int} {o1 i F j : Nat} {f g : Nat → Nat → Nat} (hA : ∀ e q : Nat, e < 8 → q < 100 → A (800 * o1 + 100 * e + q) = ((if e < i ∨ (e = i ∧ q < F + j) then f e q else g e q : Nat) : Int)) (hx : f i (F + j) = g i (F + j)) : ∀ e q : Nat, e < 8 → q < 100 → A (800 * o1 + 100 * e + q) = ((if e < i ∨ (e = i ∧ q < F + (j + 1)) then f e q else g e q : Nat) : Int) := by
  intro e q he hq
  rw [hA e q he hq]
  by_cases hc : e = i ∧ q = F + j
  · obtain ⟨rfl, rfl⟩ := hc
    rw [if_neg (by omega), if_pos (by omega), hx]
  · by_cases h2 : e < i ∨ (e = i ∧ q < F + j)
    · rw [if_pos h2, if_pos (by omega)]
    · rw [if_neg h2, if_neg (by omega)]
theorem arr_b {A : Nat → Int} {o1 i F : Nat} {f g : Nat → Nat → Nat} (hA : ∀ e q : Nat, e < 8 → q < 100 → A (800 * o1 + 100 * e + q) = ((if e < i then f e q else g e q : Nat) : Int)) (hx : ∀ q, q < F → f i q = g i q) : ∀ e q : Nat, e < 8 → q < 100 → A (800 * o1 + 100 * e + q) = ((if e < i ∨ (e = i ∧ q < F + 0) then f e q else g e q : Nat) : Int) := by
  intro e q he hq
  rw [hA e q he hq]
  by_cases hc : e = i ∧ q < F
  · obtain ⟨rfl, hc⟩ := hc
    rw [if_neg (by omega), if_pos (by omega), hx q hc]
  · by_cases h2 : e < i
    · rw [if_pos h2, if_pos (by omega)]
    · rw [if_neg h2, if_neg (by omega)]
theorem arr_e {A : Nat → Int} {o1 i F n : Nat} {f g : Nat → Nat → Nat} (hA : ∀ e q : Nat, e < 8 → q < 100 → A (800 * o1 + 100 * e + q) = ((if e < i ∨ (e = i ∧ q < F + n) then f e q else g e q : Nat) : Int)) (hx : ∀ q, F + n ≤ q → f i q = g i q) : ∀ e q : Nat, e < 8 → q < 100 → A (800 * o1 + 100 * e + q) = ((if e < i + 1 then f e q else g e q : Nat) : Int) := by
  intro e q he hq
  rw [hA e q he hq]
  by_cases hc : e = i ∧ F + n ≤ q
  · obtain ⟨rfl, hc⟩ := hc
    rw [if_neg (by omega), if_pos (by omega), hx q hc]
  · by_cases h2 : e < i + 1
    · rw [if_pos (by omega), if_pos h2]
    · rw [if_neg (by omega), if_neg h2]
theorem arr_x {A B : Nat → Int} {lo hi y : Nat} {x : Int} (h : ∀ q : Nat, q < lo ∨ hi ≤ q → A q = B q) (h1 : lo ≤ y) (h2 : y < hi) : ∀ q : Nat, q < lo ∨ hi ≤ q → uz A y x q = B q := by
  intro q hq
  unfold uz
  rw [if_neg (by omega), h q hq]
theorem mSteps_lo {O : Op} {P : Pt} {e q : Nat} (h : q < mFrom O) : mSteps O P e q = O.2.2.2.1 e q := by unfold mSteps; rw [if_neg (by omega)]
theorem mSteps_hi {O : Op} {P : Pt} {e q : Nat} (h : mFrom O + P.1.1 ≤ q) : mSteps O P e q = O.2.2.2.1 e q := by unfold mSteps; rw [if_neg (by omega)]
theorem mSteps_t {O : Op} {P : Pt} {e j : Nat} (h : j < P.1.1) (hb : P.1.2.1.testBit e = true) : mSteps O P e (mFrom O + j) = P.2.1 e j := by unfold mSteps; rw [if_pos ⟨by omega, by omega, hb⟩, Nat.add_sub_cancel_left]
theorem mSteps_f {O : Op} {P : Pt} {e q : Nat} (hb : P.1.2.1.testBit e = false) : mSteps O P e q = O.2.2.2.1 e q := by unfold mSteps; rw [if_neg (by rw [hb]; simp)]
theorem cue_in {B : Nat → Int} {o1 F i : Nat} {f g : Nat → Nat} {x : Int} (hB : ∀ q : Nat, q < 100 → B (100 * o1 + q) = ((if F ≤ q ∧ q < F + i then f q else g q : Nat) : Int)) (hx : x = f (F + i)) : ∀ q : Nat, q < 100 → uz B (100 * o1 + (F + i)) x (100 * o1 + q) = ((if F ≤ q ∧ q < F + (i + 1) then f q else g q : Nat) : Int) := by
  intro q hq
  have h := hB q hq
  unfold uz
  by_cases hc : q = F + i
  · subst hc
    rw [if_pos rfl, if_pos (by omega), hx]
  · rw [if_neg (by omega), h]
    by_cases h2 : F ≤ q ∧ q < F + i
    · rw [if_pos h2, if_pos (by omega)]
    · rw [if_neg h2, if_neg (by omega)]
theorem mCues_eq (O : Op) (P : Pt) (q : Nat) : (if mFrom O ≤ q ∧ q < mFrom O + (P.1.1 + 1) then O.2.2.2.2 q + P.2.2 (q - mFrom O) else O.2.2.2.2 q) = mCues O P q := by
  unfold mCues
  by_cases h : mFrom O ≤ q ∧ q ≤ mFrom O + P.1.1
  · rw [if_pos h, if_pos (by omega)]
  · rw [if_neg h, if_neg (by omega)]
/-- what merges has done when it comes to its end -/
def mrg1 (s s3 : MSt) (o1 : Nat) (O : Op) (P : Pt) : Prop := fr s s3 [] [27, 31, 32, 33, 34] ∧ s3.2 27 o1 = (mergeO O P).2.1.1 ∧ s3.2 31 o1 = (mergeO O P).2.2.1.1 ∧ s3.2 32 o1 = bI (mLong O P) ∧ (∀ e q : Nat, e < 8 → q < 100 → s3.2 33 (800 * o1 + 100 * e + q) = (mergeO O P).2.2.2.1 e q) ∧ (∀ q : Nat, q < 100 → s3.2 34 (100 * o1 + q) = (mergeO O P).2.2.2.2 q) ∧ opFr s s3 o1
set_option maxRecDepth 100000 in
set_option maxHeartbeats 4000000 in
theorem k_merges {o1 : Nat} {O : Op} {P : Pt} (hd : 1 ≤ d) (hM : MX g ad o h0 s h) (ho : o1 < 80) (h23 : s.1 23 = (o1 : Int) + 1) (hO : opAt s o1 O) (hP : ptAt s P) (hb : O.1.1 ≤ 7 ∧ 1 ≤ O.1.2.2 ∧ O.2.1.1 ≤ 99 ∧ P.1.1 ≤ 99 ∧ O.2.1.2.1 < 256 ∧ P.1.2.1 < 256 ∧ O.2.2.1.1 < 256 ∧ O.2.1.2.2.1 < 100000 ∧ P.1.2.2.1 < 100000) : Kc g mX3_merges d 0 0 [.ref o] h (mP g ad o h0 (fun v s' => v = none ∧ fr s s' [] [26, 27, 28, 29, 30, 31, 32, 33, 34] ∧ opAt s' o1 (mergeO O P) ∧ opFr s s' o1)) := by
  refine Kc.of (ls := [some (.ref o), none, none, none, none, none]) (by decide +kernel) (Nat.le_of_ble_eq_true rfl) rfl ?_
  obtain ⟨o24, o25, o26, o27, o28, o29, o30, o31, o32, o33, o34⟩ := hO
  obtain ⟨p17, p18, p19, p20, p21, p22⟩ := hP
  have hmF : mFrom O ≤ 99 := by unfold mFrom; split <;> omega
  have T284 : ∀ (s3 : MSt) (h : HM), MX g ad o h0 s3 h → mrg1 s s3 o1 O P → Ev g mX3_merges d 0 0 (mP g ad o h0 (fun v s' => v = none ∧ fr s s' [] [26, 27, 28, 29, 30, 31, 32, 33, 34] ∧ opAt s' o1 (mergeO O P) ∧ opFr s s' o1)) 284 [some (.ref o), some (vz (o1 : Int)), none, none, none, none] [] h := by
    intro s3 h hM hm
    have q28 : s3.2 28 = s.2 28 := hm.1.2 28 (by decide)
    have q29 : s3.2 29 = s.2 29 := hm.1.2 29 (by decide)
    have q30 : s3.2 30 = s.2 30 := hm.1.2 30 (by decide)
    have q26 : s3.2 26 = s.2 26 := hm.1.2 26 (by decide)
    have q24 : s3.2 24 = s.2 24 := hm.1.2 24 (by decide)
    have q25 : s3.2 25 = s.2 25 := hm.1.2 25 (by decide)
    have k18 : s3.1 18 = P.1.2.1 := (hm.1.1 18 (by decide)).trans p18
    have k19 : s3.1 19 = P.1.2.2.1 := (hm.1.1 19 (by decide)).trans p19
    have k20 : s3.1 20 = P.1.2.2.2 := (hm.1.1 20 (by decide)).trans p20
    obtain ⟨hm1, hm2, hm3, hm4, hm5, hm6, hm7⟩ := hm
    refine ev_aload_n dX3_merges_284 rfl ?_
    refine mx_getA hM dX3_merges_285 gf_X3_54_X3 rfl ?_
    refine ev_iload_n dX3_merges_288 rfl ?_
    refine ev_dup2 dX3_merges_289 rfl rfl ?_
    refine mx_iald hM rfl dX3_merges_290 (by omega) ?_
    try simp only [uS_1, uA_1, uF_1, uS_2, uA_2a, uF_2a, Nat.reduceEqDiff, reduceIte, Int.reduceToNat, Int.toNat_natCast]
    rw [q28, o28]
    refine ev_aload_n dX3_merges_291 rfl ?_
    refine mx_getI hM dX3_merges_292 gf_X3_144_X3 rfl ?_
    try simp only [uS_1, uA_1, uF_1, uS_2, uA_2a, uF_2a, Nat.reduceEqDiff, reduceIte, Int.reduceToNat, Int.toNat_natCast]
    rw [k18]
    refine ev_iorZ (a := O.2.1.2.1) (b := P.1.2.1) dX3_merges_295 (by omega) (by omega) ?_
    refine mx_iast hM rfl dX3_merges_296 (by omega) (fun h hM => ?_)
    refine ev_aload_n dX3_merges_297 rfl ?_
    refine mx_getA hM dX3_merges_298 gf_X3_57_X3 rfl ?_
    refine ev_iload_n dX3_merges_301 rfl ?_
    refine ev_aload_n dX3_merges_302 rfl ?_
    refine mx_getA hM dX3_merges_303 gf_X3_57_X3 rfl ?_
    refine ev_iload_n dX3_merges_306 rfl ?_
    refine mx_iald hM rfl dX3_merges_307 (by omega) ?_
    try simp only [uS_1, uA_1, uF_1, uS_2, uA_2a, uF_2a, Nat.reduceEqDiff, reduceIte, Int.reduceToNat, Int.toNat_natCast]
    rw [q29, o29]
    refine ev_aload_n dX3_merges_308 rfl ?_
    refine mx_getI hM dX3_merges_309 gf_X3_147_X3 rfl ?_
    try simp only [uS_1, uA_1, uF_1, uS_2, uA_2a, uF_2a, Nat.reduceEqDiff, reduceIte, Int.reduceToNat, Int.toNat_natCast]
    rw [k19]
    refine ev_icmp_leZ (tgt := 324) dX3_merges_312 (by decide) (by omega) (by omega) (fun c312 => ?_) (fun c312 => ?_)
    · refine ev_aload_n dX3_merges_324 rfl ?_
      refine mx_getI hM dX3_merges_325 gf_X3_147_X3 rfl ?_
      try simp only [uS_1, uA_1, uF_1, uS_2, uA_2a, uF_2a, Nat.reduceEqDiff, reduceIte, Int.reduceToNat, Int.toNat_natCast]
      rw [k19]
      refine ev_to (b := ((max O.2.1.2.2.1 P.1.2.2.1 : Nat) : Int)) (by omega) ?_
      refine mx_iast hM rfl dX3_merges_328 (by omega) (fun h hM => ?_)
      refine ev_aload_n dX3_merges_329 rfl ?_
      refine mx_getA hM dX3_merges_330 gf_X3_60_X3 rfl ?_
      refine ev_iload_n dX3_merges_333 rfl ?_
      refine ev_dup2 dX3_merges_334 rfl rfl ?_
      refine mx_iald hM rfl dX3_merges_335 (by omega) ?_
      try simp only [uS_1, uA_1, uF_1, uS_2, uA_2a, uF_2a, Nat.reduceEqDiff, reduceIte, Int.reduceToNat, Int.toNat_natCast]
      rw [q30, o30]
      refine ev_aload_n dX3_merges_336 rfl ?_
      refine mx_getI hM dX3_merges_337 gf_X3_150_X3 rfl ?_
      try simp only [uS_1, uA_1, uF_1, uS_2, uA_2a, uF_2a, Nat.reduceEqDiff, reduceIte, Int.reduceToNat, Int.toNat_natCast]
      rw [k20]
      refine ev_iaddZ dX3_merges_340 ?_
      refine mx_iast hM rfl dX3_merges_341 (by omega) (fun h hM => ?_)
      refine ev_aload_n dX3_merges_342 rfl ?_
      refine mx_getA hM dX3_merges_343 gf_X3_48_X3 rfl ?_
      refine ev_iload_n dX3_merges_346 rfl ?_
      refine ev_dup2 dX3_merges_347 rfl rfl ?_
      refine mx_iald hM rfl dX3_merges_348 (by omega) ?_
      try simp only [uS_1, uA_1, uF_1, uS_2, uA_2a, uF_2a, Nat.reduceEqDiff, reduceIte, Int.reduceToNat, Int.toNat_natCast]
      rw [q26, o26]
      refine ev_iconstZ dX3_merges_349 ?_
      refine ev_isubZ dX3_merges_350 ?_
      refine mx_iast hM rfl dX3_merges_351 (by omega) (fun h hM => ?_)
      refine ev_return dX3_merges_352 rfl ?_
      refine ⟨none, _, rfl, ⟨rfl, fr.A (fr.A (fr.A (fr.A (fr.more hm1 rfl rfl) rfl) rfl) rfl) rfl, ?_, ?_⟩, hM⟩
      · refine ⟨?_, ?_, ?_, ?_, ?_, ?_, ?_, ?_, ?_, ?_, ?_⟩
        case refine_10 => intro e q he hq; simp only [uS_1, uA_1, uF_1, uS_2, uA_2a, uF_2a, Nat.reduceEqDiff, reduceIte, Int.reduceToNat, Int.toNat_natCast]; exact hm5 e q he hq
        case refine_11 => intro q hq; simp only [uS_1, uA_1, uF_1, uS_2, uA_2a, uF_2a, Nat.reduceEqDiff, reduceIte, Int.reduceToNat, Int.toNat_natCast]; exact hm6 q hq
        all_goals simp only [uS_1, uA_1, uF_1, uS_2, uA_2a, uF_2a, Nat.reduceEqDiff, reduceIte, Int.reduceToNat, Int.toNat_natCast]
        · rw [q24]; exact o24
        · rw [q25]; exact o25
        · show _ = ((O.1.2.2 - 1 : Nat) : Int); omega
        · exact hm2
        · rfl
        · show _ = ((max O.2.1.2.2.1 P.1.2.2.1 : Nat) : Int); rfl
        · show _ = ((O.2.1.2.2.2 + P.1.2.2.2 : Nat) : Int); omega
        · exact hm3
        · exact hm4
      · refine opFr.trans hm7 ⟨fun j hj i hi => ?_, fun x hx => ?_, fun x hx => ?_⟩
        · simp only [uS_1, uA_1, uF_1, uS_2, uA_2a, uF_2a, Nat.reduceEqDiff, reduceIte, Int.reduceToNat, Int.toNat_natCast, if_neg hi]; simp only [List.mem_cons, List.not_mem_nil, or_false] at hj; rcases hj with rfl | rfl | rfl | rfl | rfl | rfl | rfl | rfl | rfl <;> rfl
        · simp only [uS_1, uA_1, uF_1, uS_2, uA_2a, uF_2a, Nat.reduceEqDiff, reduceIte, Int.reduceToNat, Int.toNat_natCast]
        · simp only [uS_1, uA_1, uF_1, uS_2, uA_2a, uF_2a, Nat.reduceEqDiff, reduceIte, Int.reduceToNat, Int.toNat_natCast]
    · refine ev_aload_n dX3_merges_315 rfl ?_
      refine mx_getA hM dX3_merges_316 gf_X3_57_X3 rfl ?_
      refine ev_iload_n dX3_merges_319 rfl ?_
      refine mx_iald hM rfl dX3_merges_320 (by omega) ?_
      try simp only [uS_1, uA_1, uF_1, uS_2, uA_2a, uF_2a, Nat.reduceEqDiff, reduceIte, Int.reduceToNat, Int.toNat_natCast]
      rw [q29, o29]
      refine ev_to (b := ((max O.2.1.2.2.1 P.1.2.2.1 : Nat) : Int)) (by omega) ?_
      refine ev_goto (tgt := 328) dX3_merges_321 (by decide) ?_
      refine mx_iast hM rfl dX3_merges_328 (by omega) (fun h hM => ?_)
      refine ev_aload_n dX3_merges_329 rfl ?_
      refine mx_getA hM dX3_merges_330 gf_X3_60_X3 rfl ?_
      refine ev_iload_n dX3_merges_333 rfl ?_
      refine ev_dup2 dX3_merges_334 rfl rfl ?_
      refine mx_iald hM rfl dX3_merges_335 (by omega) ?_
      try simp only [uS_1, uA_1, uF_1, uS_2, uA_2a, uF_2a, Nat.reduceEqDiff, reduceIte, Int.reduceToNat, Int.toNat_natCast]
      rw [q30, o30]
      refine ev_aload_n dX3_merges_336 rfl ?_
      refine mx_getI hM dX3_merges_337 gf_X3_150_X3 rfl ?_
      try simp only [uS_1, uA_1, uF_1, uS_2, uA_2a, uF_2a, Nat.reduceEqDiff, reduceIte, Int.reduceToNat, Int.toNat_natCast]
      rw [k20]
      refine ev_iaddZ dX3_merges_340 ?_
      refine mx_iast hM rfl dX3_merges_341 (by omega) (fun h hM => ?_)
      refine ev_aload_n dX3_merges_342 rfl ?_
      refine mx_getA hM dX3_merges_343 gf_X3_48_X3 rfl ?_
      refine ev_iload_n dX3_merges_346 rfl ?_
      refine ev_dup2 dX3_merges_347 rfl rfl ?_
      refine mx_iald hM rfl dX3_merges_348 (by omega) ?_
      try simp only [uS_1, uA_1, uF_1, uS_2, uA_2a, uF_2a, Nat.reduceEqDiff, reduceIte, Int.reduceToNat, Int.toNat_natCast]
      rw [q26, o26]
      refine ev_iconstZ dX3_merges_349 ?_
      refine ev_isubZ dX3_merges_350 ?_
      refine mx_iast hM rfl dX3_merges_351 (by omega) (fun h hM => ?_)
      refine ev_return dX3_merges_352 rfl ?_
      refine ⟨none, _, rfl, ⟨rfl, fr.A (fr.A (fr.A (fr.A (fr.more hm1 rfl rfl) rfl) rfl) rfl) rfl, ?_, ?_⟩, hM⟩
      · refine ⟨?_, ?_, ?_, ?_, ?_, ?_, ?_, ?_, ?_, ?_, ?_⟩
        case refine_10 => intro e q he hq; simp only [uS_1, uA_1, uF_1, uS_2, uA_2a, uF_2a, Nat.reduceEqDiff, reduceIte, Int.reduceToNat, Int.toNat_natCast]; exact hm5 e q he hq
        case refine_11 => intro q hq; simp only [uS_1, uA_1, uF_1, uS_2, uA_2a, uF_2a, Nat.reduceEqDiff, reduceIte, Int.reduceToNat, Int.toNat_natCast]; exact hm6 q hq
        all_goals simp only [uS_1, uA_1, uF_1, uS_2, uA_2a, uF_2a, Nat.reduceEqDiff, reduceIte, Int.reduceToNat, Int.toNat_natCast]
        · rw [q24]; exact o24
        · rw [q25]; exact o25
        · show _ = ((O.1.2.2 - 1 : Nat) : Int); omega
        · exact hm2
        · rfl
        · show _ = ((max O.2.1.2.2.1 P.1.2.2.1 : Nat) : Int); rfl
        · show _ = ((O.2.1.2.2.2 + P.1.2.2.2 : Nat) : Int); omega
        · exact hm3
        · exact hm4
      · refine opFr.trans hm7 ⟨fun j hj i hi => ?_, fun x hx => ?_, fun x hx => ?_⟩
        · simp only [uS_1, uA_1, uF_1, uS_2, uA_2a, uF_2a, Nat.reduceEqDiff, reduceIte, Int.reduceToNat, Int.toNat_natCast, if_neg hi]; simp only [List.mem_cons, List.not_mem_nil, or_false] at hj; rcases hj with rfl | rfl | rfl | rfl | rfl | rfl | rfl | rfl | rfl <;> rfl
        · simp only [uS_1, uA_1, uF_1, uS_2, uA_2a, uF_2a, Nat.reduceEqDiff, reduceIte, Int.reduceToNat, Int.toNat_natCast]
        · simp only [uS_1, uA_1, uF_1, uS_2, uA_2a, uF_2a, Nat.reduceEqDiff, reduceIte, Int.reduceToNat, Int.toNat_natCast]
  have T98 : ∀ (s2 : MSt) (h : HM), MX g ad o h0 s2 h → fr s s2 [] [31, 32] → s2.2 31 o1 = (mergeO O P).2.2.1.1 → s2.2 32 o1 = bI (mLong O P) → opFr s s2 o1 → Ev g mX3_merges d 0 0 (mP g ad o h0 (fun v s' => v = none ∧ fr s s' [] [26, 27, 28, 29, 30, 31, 32, 33, 34] ∧ opAt s' o1 (mergeO O P) ∧ opFr s s' o1)) 98 [some (.ref o), some (vz (o1 : Int)), none, some (vz ((mFrom O : Nat) : Int)), none, none] [] h := by
    intro s2 h hM hg hl31 hl32 hlo
    have q27 : s2.2 27 = s.2 27 := hg.2 27 (by decide)
    have q33 : s2.2 33 = s.2 33 := hg.2 33 (by decide)
    have q34 : s2.2 34 = s.2 34 := hg.2 34 (by decide)
    have q21 : s2.2 21 = s.2 21 := hg.2 21 (by decide)
    have q22 : s2.2 22 = s.2 22 := hg.2 22 (by decide)
    have k17 : s2.1 17 = P.1.1 := (hg.1 17 (by decide)).trans p17
    have k18 : s2.1 18 = P.1.2.1 := (hg.1 18 (by decide)).trans p18
    cases hL : mLong O P with
    | true =>
      refine ev_iconstZ dX3_merges_98 ?_
      refine ev_istore dX3_merges_99 (by decide) rfl ?_
      dsimp only [List.set]
      refine ev_iload dX3_merges_101 rfl ?_
      refine ev_bipushZ dX3_merges_103 rfl ?_
      refine ev_icmp_geZ (tgt := 188) dX3_merges_105 (by decide) (by omega) (by omega) (fun c => absurd c (by decide)) (fun _ => ?_)
      refine ev_aload_n dX3_merges_108 rfl ?_
      refine mx_getA hM dX3_merges_109 gf_X3_66_X3 rfl ?_
      refine ev_iload_n dX3_merges_112 rfl ?_
      refine mx_zald hM rfl dX3_merges_113 (by omega) ?_
      try simp only [uS_1, uA_1, uF_1, uS_2, uA_2a, uF_2a, Nat.reduceEqDiff, reduceIte, Int.reduceToNat, Int.toNat_natCast]
      rw [hl32, hL, bI_o']
      refine ev_if_neZ (tgt := 188) dX3_merges_114 (by decide) (by decide) (fun _ => ?_) (fun c => absurd c (by decide))
      refine ev_iconstZ dX3_merges_188 ?_
      refine ev_istore dX3_merges_189 (by decide) rfl ?_
      dsimp only [List.set]
      refine ev_iload dX3_merges_191 rfl ?_
      refine ev_aload_n dX3_merges_193 rfl ?_
      refine mx_getI hM dX3_merges_194 gf_X3_141_X3 rfl ?_
      try simp only [uS_1, uA_1, uF_1, uS_2, uA_2a, uF_2a, Nat.reduceEqDiff, reduceIte, Int.reduceToNat, Int.toNat_natCast]
      rw [k17]
      refine ev_icmp_gtZ (tgt := 239) dX3_merges_197 (by decide) (by omega) (by omega) (fun c => absurd c (by omega)) (fun _ => ?_)
      refine ev_aload_n dX3_merges_200 rfl ?_
      refine mx_getA hM dX3_merges_201 gf_X3_66_X3 rfl ?_
      refine ev_iload_n dX3_merges_204 rfl ?_
      refine mx_zald hM rfl dX3_merges_205 (by omega) ?_
      try simp only [uS_1, uA_1, uF_1, uS_2, uA_2a, uF_2a, Nat.reduceEqDiff, reduceIte, Int.reduceToNat, Int.toNat_natCast]
      rw [hl32, hL, bI_o']
      refine ev_if_neZ (tgt := 239) dX3_merges_206 (by decide) (by decide) (fun _ => ?_) (fun c => absurd c (by decide))
      refine ev_aload_n dX3_merges_239 rfl ?_
      refine mx_getA hM dX3_merges_240 gf_X3_66_X3 rfl ?_
      refine ev_iload_n dX3_merges_243 rfl ?_
      refine mx_zald hM rfl dX3_merges_244 (by omega) ?_
      try simp only [uS_1, uA_1, uF_1, uS_2, uA_2a, uF_2a, Nat.reduceEqDiff, reduceIte, Int.reduceToNat, Int.toNat_natCast]
      rw [hl32, hL, bI_o']
      refine ev_if_neZ (tgt := 284) dX3_merges_245 (by decide) (by decide) (fun _ => ?_) (fun c => absurd c (by decide))
      refine Ev.forget (T284 s2 h hM ⟨fr.more hg rfl rfl, ?_, hl31, hl32, ?_, ?_, hlo⟩) (by repeat' first | exact rfl | exact trivial | exact vz_eq (by omega) | refine And.intro ?_ ?_)
      · rw [q27, o27]; simp [mergeO, hL]
      · intro e q he hq; rw [q33, o33 e q he hq]; simp [mergeO, hL]
      · intro q hq; rw [q34, o34 q hq]; simp [mergeO, hL]
    | false =>
      have hsz : mFrom O + P.1.1 ≤ 99 := by unfold mLong at hL; simp at hL; omega
      refine ev_iconstZ dX3_merges_98 ?_
      refine ev_istore dX3_merges_99 (by decide) rfl ?_
      dsimp only [List.set]
      refine ev_for 8 (fun i h => ∃ A : Nat → Int, MX g ad o h0 (uF s2 33 A) h ∧ (∀ e q : Nat, e < 8 → q < 100 → A (800 * o1 + 100 * e + q) = ((if e < i then mSteps O P e q else O.2.2.2.1 e q : Nat) : Int)) ∧ ∀ x : Nat, x < 800 * o1 ∨ 800 * o1 + 800 ≤ x → A x = s.2 33 x) (fun i => [some (.ref o), some (vz (o1 : Int)), none, some (vz ((mFrom O : Nat) : Int)), some (vz (i : Int)), none]) 0 (by omega) (by refine ⟨s2.2 33, by rw [uF_self]; exact hM, fun e q he hq => ?_, fun x hx => by rw [q33]⟩; rw [q33, o33 e q he hq, if_neg (by omega)]) (by repeat' first | exact rfl | exact trivial | exact vz_eq (by omega) | refine And.intro ?_ ?_) (fun i h hi1 hi2 hX hN => ?_) (fun h hX => ?_)
      · clear hM
        obtain ⟨A, hM, hA, hAx⟩ := hX
        refine ev_iload dX3_merges_101 rfl ?_
        refine ev_bipushZ dX3_merges_103 rfl ?_
        refine ev_icmp_geZ (tgt := 188) dX3_merges_105 (by decide) (by omega) (by omega) (fun c => absurd c (by omega)) (fun _ => ?_)
        refine ev_aload_n dX3_merges_108 rfl ?_
        refine mx_getA hM dX3_merges_109 gf_X3_66_X3 rfl ?_
        refine ev_iload_n dX3_merges_112 rfl ?_
        refine mx_zald hM rfl dX3_merges_113 (by omega) ?_
        try simp only [uS_1, uA_1, uF_1, uS_2, uA_2a, uF_2a, Nat.reduceEqDiff, reduceIte, Int.reduceToNat, Int.toNat_natCast]
        rw [hl32, hL, bI_z]
        refine ev_if_neZ (tgt := 188) dX3_merges_114 (by decide) (by decide) (fun c => absurd rfl c) (fun _ => ?_)
        refine ev_iconstZ dX3_merges_117 ?_
        refine ev_istore dX3_merges_118 (by decide) rfl ?_
        dsimp only [List.set]
        refine ev_for P.1.1 (fun j h => ∃ A : Nat → Int, MX g ad o h0 (uF s2 33 A) h ∧ (∀ e q : Nat, e < 8 → q < 100 → A (800 * o1 + 100 * e + q) = ((if e < i ∨ (e = i ∧ q < mFrom O + j) then mSteps O P e q else O.2.2.2.1 e q : Nat) : Int)) ∧ ∀ x : Nat, x < 800 * o1 ∨ 800 * o1 + 800 ≤ x → A x = s.2 33 x) (fun j => [some (.ref o), some (vz (o1 : Int)), none, some (vz ((mFrom O : Nat) : Int)), some (vz (i : Int)), some (vz (j : Int))]) 0 (by omega) (by exact ⟨A, hM, arr_b hA (fun q hq => mSteps_lo hq), hAx⟩) (by repeat' first | exact rfl | exact trivial | exact vz_eq (by omega) | refine And.intro ?_ ?_) (fun j h hj1 hj2 hX hN2 => ?_) (fun h hX => ?_)
        · clear hM hA hAx
          obtain ⟨A, hM, hA, hAx⟩ := hX
          refine ev_iload dX3_merges_120 rfl ?_
          refine ev_aload_n dX3_merges_122 rfl ?_
          refine mx_getI hM dX3_merges_123 gf_X3_141_X3 rfl ?_
          try simp only [uS_1, uA_1, uF_1, uS_2, uA_2a, uF_2a, Nat.reduceEqDiff, reduceIte, Int.reduceToNat, Int.toNat_natCast]
          rw [k17]
          refine ev_icmp_geZ (tgt := 182) dX3_merges_126 (by decide) (by omega) (by omega) (fun c126 => absurd c126 (by omega)) (fun c126 => ?_)
          refine ev_aload_n dX3_merges_129 rfl ?_
          refine mx_getI hM dX3_merges_130 gf_X3_144_X3 rfl ?_
          try simp only [uS_1, uA_1, uF_1, uS_2, uA_2a, uF_2a, Nat.reduceEqDiff, reduceIte, Int.reduceToNat, Int.toNat_natCast]
          rw [k18]
          refine ev_iload dX3_merges_133 rfl ?_
          refine ev_ishrZ (u := P.1.2.1) (e := i) dX3_merges_135 (by omega) (by omega) ?_
          refine ev_iconstZ dX3_merges_136 ?_
          refine ev_iandZ (a := P.1.2.1 >>> i) (b := 1) dX3_merges_137 (Nat.lt_of_le_of_lt (Nat.shiftRight_le _ _) (by omega)) (by omega) ?_
          refine ev_iconstZ dX3_merges_138 ?_
          refine ev_icmp_neZ (tgt := 176) dX3_merges_139 (by decide) (by have := @Nat.and_le_right (P.1.2.1 >>> i) 1; omega) (by have := @Nat.and_le_right (P.1.2.1 >>> i) 1; omega) (fun c139 => ?_) (fun c139 => ?_)
          · have hb : P.1.2.1.testBit i = false := by rw [bit_e (by omega) (by omega)] at c139; grind
            refine ev_iincZ dX3_merges_176 rfl (by decide) rfl ?_
            dsimp only [List.set]
            refine ev_goto (tgt := 120) dX3_merges_179 (by decide) ?_
            first
              | exact hN2 _ _ (by repeat' first | exact rfl | exact trivial | exact vz_eq (by omega) | refine And.intro ?_ ?_) ⟨_, hM, arr_in hA (by omega) (mSteps_t hj2 hb), arr_x hAx (by omega) (by omega)⟩
              | exact hN2 _ _ (by repeat' first | exact rfl | exact trivial | exact vz_eq (by omega) | refine And.intro ?_ ?_) ⟨_, hM, arr_in0 hA (mSteps_f hb), hAx⟩
          · have hb : P.1.2.1.testBit i = true := by rw [bit_e (by omega) (by omega)] at c139; grind
            refine ev_aload_n dX3_merges_142 rfl ?_
            refine mx_getA hM dX3_merges_143 gf_X3_71_X3 rfl ?_
            refine ev_sipushZ dX3_merges_146 rfl ?_
            refine ev_iload_n dX3_merges_149 rfl ?_
            refine ev_imulZ dX3_merges_150 ?_
            refine ev_bipushZ dX3_merges_151 rfl ?_
            refine ev_iload dX3_merges_153 rfl ?_
            refine ev_imulZ dX3_merges_155 ?_
            refine ev_iaddZ dX3_merges_156 ?_
            refine ev_iload_n dX3_merges_157 rfl ?_
            refine ev_iaddZ dX3_merges_158 ?_
            refine ev_iload dX3_merges_159 rfl ?_
            refine ev_iaddZ dX3_merges_161 ?_
            refine ev_to (b := ((800 * o1 + 100 * i + mFrom O + j : Nat) : Int)) (by omega) ?_
            refine ev_aload_n dX3_merges_162 rfl ?_
            refine mx_getA hM dX3_merges_163 gf_X3_36_X3 rfl ?_
            refine ev_bipushZ dX3_merges_166 rfl ?_
            refine ev_iload dX3_merges_168 rfl ?_
            refine ev_imulZ dX3_merges_170 ?_
            refine ev_iload dX3_merges_171 rfl ?_
            refine ev_iaddZ dX3_merges_173 ?_
            refine ev_to (b := ((100 * i + j : Nat) : Int)) (by omega) ?_
            refine mx_iald hM rfl dX3_merges_174 (by omega) ?_
            try simp only [uS_1, uA_1, uF_1, uS_2, uA_2a, uF_2a, Nat.reduceEqDiff, reduceIte, Int.reduceToNat, Int.toNat_natCast]
            rw [q21, p21 i j (by omega) (by omega)]
            refine mx_iast hM rfl dX3_merges_175 (by omega) (fun h hM => ?_)
            rw [uA_uF, Int.toNat_natCast] at hM
            refine ev_iincZ dX3_merges_176 rfl (by decide) rfl ?_
            dsimp only [List.set]
            refine ev_goto (tgt := 120) dX3_merges_179 (by decide) ?_
            first
              | exact hN2 _ _ (by repeat' first | exact rfl | exact trivial | exact vz_eq (by omega) | refine And.intro ?_ ?_) ⟨_, hM, arr_in hA (by omega) (mSteps_t hj2 hb), arr_x hAx (by omega) (by omega)⟩
              | exact hN2 _ _ (by repeat' first | exact rfl | exact trivial | exact vz_eq (by omega) | refine And.intro ?_ ?_) ⟨_, hM, arr_in0 hA (mSteps_f hb), hAx⟩
        · clear hM hA hAx
          obtain ⟨A, hM, hA, hAx⟩ := hX
          refine ev_iload dX3_merges_120 rfl ?_
          refine ev_aload_n dX3_merges_122 rfl ?_
          refine mx_getI hM dX3_merges_123 gf_X3_141_X3 rfl ?_
          try simp only [uS_1, uA_1, uF_1, uS_2, uA_2a, uF_2a, Nat.reduceEqDiff, reduceIte, Int.reduceToNat, Int.toNat_natCast]
          rw [k17]
          refine ev_icmp_geZ (tgt := 182) dX3_merges_126 (by decide) (by omega) (by omega) (fun c126 => ?_) (fun c126 => absurd (by omega) c126)
          refine ev_iincZ dX3_merges_182 rfl (by decide) rfl ?_
          dsimp only [List.set]
          refine ev_goto (tgt := 101) dX3_merges_185 (by decide) ?_
          exact hN _ _ (by repeat' first | exact rfl | exact trivial | exact vz_eq (by omega) | refine And.intro ?_ ?_) ⟨_, hM, arr_e hA (fun q hq => mSteps_hi hq), hAx⟩
      · clear hM
        obtain ⟨A, hM, hA, hAx⟩ := hX
        refine ev_iload dX3_merges_101 rfl ?_
        refine ev_bipushZ dX3_merges_103 rfl ?_
        refine ev_icmp_geZ (tgt := 188) dX3_merges_105 (by decide) (by omega) (by omega) (fun _ => ?_) (fun c => absurd (by omega) c)
        refine ev_iconstZ dX3_merges_188 ?_
        refine ev_istore dX3_merges_189 (by decide) rfl ?_
        dsimp only [List.set]
        refine ev_for (P.1.1 + 1) (fun i h => ∃ B : Nat → Int, MX g ad o h0 (uF (uF s2 33 A) 34 B) h ∧ (∀ q : Nat, q < 100 → B (100 * o1 + q) = ((if mFrom O ≤ q ∧ q < mFrom O + i then O.2.2.2.2 q + P.2.2 (q - mFrom O) else O.2.2.2.2 q : Nat) : Int)) ∧ ∀ x : Nat, x < 100 * o1 ∨ 100 * o1 + 100 ≤ x → B x = s.2 34 x) (fun i => [some (.ref o), some (vz (o1 : Int)), none, some (vz ((mFrom O : Nat) : Int)), some (vz (i : Int)), none]) 0 (by omega) (by refine ⟨s2.2 34, by exact MX.congr2 hM (by intro j _ _; rfl) (by intro j i hj; simp only [uS_1, uA_1, uF_1, uS_2, uA_2a, uF_2a, Nat.reduceEqDiff, reduceIte, Int.reduceToNat, Int.toNat_natCast]; grind), fun q hq => ?_, fun x hx => by rw [q34]⟩; rw [q34, o34 q hq, if_neg (by omega)]) (by repeat' first | exact rfl | exact trivial | exact vz_eq (by omega) | refine And.intro ?_ ?_) (fun i h hi1 hi2 hX hN => ?_) (fun h hX => ?_)
        · clear hM
          obtain ⟨B, hM, hB, hBx⟩ := hX
          refine ev_iload dX3_merges_191 rfl ?_
          refine ev_aload_n dX3_merges_193 rfl ?_
          refine mx_getI hM dX3_merges_194 gf_X3_141_X3 rfl ?_
          try simp only [uS_1, uA_1, uF_1, uS_2, uA_2a, uF_2a, Nat.reduceEqDiff, reduceIte, Int.reduceToNat, Int.toNat_natCast]
          rw [k17]
          refine ev_icmp_gtZ (tgt := 239) dX3_merges_197 (by decide) (by omega) (by omega) (fun c => absurd c (by omega)) (fun c197 => ?_)
          refine ev_aload_n dX3_merges_200 rfl ?_
          refine mx_getA hM dX3_merges_201 gf_X3_66_X3 rfl ?_
          refine ev_iload_n dX3_merges_204 rfl ?_
          refine mx_zald hM rfl dX3_merges_205 (by omega) ?_
          try simp only [uS_1, uA_1, uF_1, uS_2, uA_2a, uF_2a, Nat.reduceEqDiff, reduceIte, Int.reduceToNat, Int.toNat_natCast]
          rw [hl32, hL, bI_z]
          refine ev_if_neZ (tgt := 239) dX3_merges_206 (by decide) (by decide) (fun c => absurd rfl c) (fun _ => ?_)
          refine ev_aload_n dX3_merges_209 rfl ?_
          refine mx_getA hM dX3_merges_210 gf_X3_74_X3 rfl ?_
          refine ev_bipushZ dX3_merges_213 rfl ?_
          refine ev_iload_n dX3_merges_215 rfl ?_
          refine ev_imulZ dX3_merges_216 ?_
          refine ev_iload_n dX3_merges_217 rfl ?_
          refine ev_iaddZ dX3_merges_218 ?_
          refine ev_iload dX3_merges_219 rfl ?_
          refine ev_iaddZ dX3_merges_221 ?_
          refine ev_to (b := ((100 * o1 + (mFrom O + i) : Nat) : Int)) (by omega) ?_
          refine ev_dup2 dX3_merges_222 rfl rfl ?_
          refine mx_iald hM rfl dX3_merges_223 (by omega) ?_
          try simp only [uS_1, uA_1, uF_1, uS_2, uA_2a, uF_2a, Nat.reduceEqDiff, reduceIte, Int.reduceToNat, Int.toNat_natCast]
          rw [hB (mFrom O + i) (by omega), if_neg (by omega)]
          refine ev_aload_n dX3_merges_224 rfl ?_
          refine mx_getA hM dX3_merges_225 gf_X3_39_X3 rfl ?_
          refine ev_iload dX3_merges_228 rfl ?_
          refine mx_iald hM rfl dX3_merges_230 (by omega) ?_
          try simp only [uS_1, uA_1, uF_1, uS_2, uA_2a, uF_2a, Nat.reduceEqDiff, reduceIte, Int.reduceToNat, Int.toNat_natCast]
          rw [q22, p22 i (by omega)]
          refine ev_iaddZ dX3_merges_231 ?_
          refine mx_iast hM rfl dX3_merges_232 (by omega) (fun h hM => ?_)
          rw [uA_uF, Int.toNat_natCast] at hM
          refine ev_iincZ dX3_merges_233 rfl (by decide) rfl ?_
          dsimp only [List.set]
          refine ev_goto (tgt := 191) dX3_merges_236 (by decide) ?_
          exact hN _ _ (by repeat' first | exact rfl | exact trivial | exact vz_eq (by omega) | refine And.intro ?_ ?_) ⟨_, hM, cue_in (f := fun q => O.2.2.2.2 q + P.2.2 (q - mFrom O)) (g := O.2.2.2.2) hB (by simp), arr_x hBx (by omega) (by omega)⟩
        · clear hM
          obtain ⟨B, hM, hB, hBx⟩ := hX
          refine ev_iload dX3_merges_191 rfl ?_
          refine ev_aload_n dX3_merges_193 rfl ?_
          refine mx_getI hM dX3_merges_194 gf_X3_141_X3 rfl ?_
          try simp only [uS_1, uA_1, uF_1, uS_2, uA_2a, uF_2a, Nat.reduceEqDiff, reduceIte, Int.reduceToNat, Int.toNat_natCast]
          rw [k17]
          refine ev_icmp_gtZ (tgt := 239) dX3_merges_197 (by decide) (by omega) (by omega) (fun c => ?_) (fun c197 => absurd (by omega) c197)
          refine ev_aload_n dX3_merges_239 rfl ?_
          refine mx_getA hM dX3_merges_240 gf_X3_66_X3 rfl ?_
          refine ev_iload_n dX3_merges_243 rfl ?_
          refine mx_zald hM rfl dX3_merges_244 (by omega) ?_
          try simp only [uS_1, uA_1, uF_1, uS_2, uA_2a, uF_2a, Nat.reduceEqDiff, reduceIte, Int.reduceToNat, Int.toNat_natCast]
          rw [hl32, hL, bI_z]
          refine ev_if_neZ (tgt := 284) dX3_merges_245 (by decide) (by decide) (fun c => absurd rfl c) (fun _ => ?_)
          refine ev_aload_n dX3_merges_248 rfl ?_
          refine mx_getA hM dX3_merges_249 gf_X3_51_X3 rfl ?_
          refine ev_iload_n dX3_merges_252 rfl ?_
          refine ev_iload_n dX3_merges_253 rfl ?_
          refine ev_aload_n dX3_merges_254 rfl ?_
          refine mx_getI hM dX3_merges_255 gf_X3_141_X3 rfl ?_
          try simp only [uS_1, uA_1, uF_1, uS_2, uA_2a, uF_2a, Nat.reduceEqDiff, reduceIte, Int.reduceToNat, Int.toNat_natCast]
          rw [k17]
          refine ev_iaddZ dX3_merges_258 ?_
          refine ev_aload_n dX3_merges_259 rfl ?_
          refine mx_getA hM dX3_merges_260 gf_X3_51_X3 rfl ?_
          refine ev_iload_n dX3_merges_263 rfl ?_
          refine mx_iald hM rfl dX3_merges_264 (by omega) ?_
          try simp only [uS_1, uA_1, uF_1, uS_2, uA_2a, uF_2a, Nat.reduceEqDiff, reduceIte, Int.reduceToNat, Int.toNat_natCast]
          rw [q27, o27]
          refine ev_icmp_leZ (tgt := 277) dX3_merges_265 (by decide) (by omega) (by omega) (fun c265 => ?_) (fun c265 => ?_)
          · refine ev_aload_n dX3_merges_277 rfl ?_
            refine mx_getA hM dX3_merges_278 gf_X3_51_X3 rfl ?_
            refine ev_iload_n dX3_merges_281 rfl ?_
            refine mx_iald hM rfl dX3_merges_282 (by omega) ?_
            try simp only [uS_1, uA_1, uF_1, uS_2, uA_2a, uF_2a, Nat.reduceEqDiff, reduceIte, Int.reduceToNat, Int.toNat_natCast]
            rw [q27, o27]
            refine ev_to (b := ((if mLong O P then O.2.1.1 else max (mFrom O + P.1.1) O.2.1.1 : Nat) : Int)) (by rw [hL]; simp; omega) ?_
            refine mx_iast hM rfl dX3_merges_283 (by omega) (fun h hM => ?_)
            refine Ev.forget (T284 _ h hM ⟨fr.A (fr.F (fr.F (fr.more hg rfl rfl) rfl) rfl) rfl, ?_, ?_, ?_, ?_, ?_, ?_⟩) (by repeat' first | exact rfl | exact trivial | exact vz_eq (by omega) | refine And.intro ?_ ?_)
            · simp only [uS_1, uA_1, uF_1, uS_2, uA_2a, uF_2a, Nat.reduceEqDiff, reduceIte, Int.reduceToNat, Int.toNat_natCast]; rfl
            · simp only [uS_1, uA_1, uF_1, uS_2, uA_2a, uF_2a, Nat.reduceEqDiff, reduceIte, Int.reduceToNat, Int.toNat_natCast]; exact hl31
            · simp only [uS_1, uA_1, uF_1, uS_2, uA_2a, uF_2a, Nat.reduceEqDiff, reduceIte, Int.reduceToNat, Int.toNat_natCast]; exact hl32
            · intro e q he hq; simp only [uS_1, uA_1, uF_1, uS_2, uA_2a, uF_2a, Nat.reduceEqDiff, reduceIte, Int.reduceToNat, Int.toNat_natCast]; rw [hA e q he hq]; simp [mergeO, hL, he]
            · intro q hq; simp only [uS_1, uA_1, uF_1, uS_2, uA_2a, uF_2a, Nat.reduceEqDiff, reduceIte, Int.reduceToNat, Int.toNat_natCast]; rw [hB q hq, mCues_eq]; simp [mergeO, hL]
            · refine ⟨fun j hj i hi => ?_, fun x hx => ?_, fun x hx => ?_⟩
              · have hq := hlo.1 j hj i hi
                simp only [uS_1, uA_1, uF_1, uS_2, uA_2a, uF_2a, Nat.reduceEqDiff, reduceIte, Int.reduceToNat, Int.toNat_natCast, if_neg hi]; simp only [List.mem_cons, List.not_mem_nil, or_false] at hj; rcases hj with rfl | rfl | rfl | rfl | rfl | rfl | rfl | rfl | rfl <;> simp only [Nat.reduceEqDiff, reduceIte] <;> exact hq
              · simp only [uS_1, uA_1, uF_1, uS_2, uA_2a, uF_2a, Nat.reduceEqDiff, reduceIte, Int.reduceToNat, Int.toNat_natCast]; exact hAx x hx
              · simp only [uS_1, uA_1, uF_1, uS_2, uA_2a, uF_2a, Nat.reduceEqDiff, reduceIte, Int.reduceToNat, Int.toNat_natCast]; exact hBx x hx
          · refine ev_iload_n dX3_merges_268 rfl ?_
            refine ev_aload_n dX3_merges_269 rfl ?_
            refine mx_getI hM dX3_merges_270 gf_X3_141_X3 rfl ?_
            try simp only [uS_1, uA_1, uF_1, uS_2, uA_2a, uF_2a, Nat.reduceEqDiff, reduceIte, Int.reduceToNat, Int.toNat_natCast]
            rw [k17]
            refine ev_iaddZ dX3_merges_273 ?_
            refine ev_to (b := ((if mLong O P then O.2.1.1 else max (mFrom O + P.1.1) O.2.1.1 : Nat) : Int)) (by rw [hL]; simp; omega) ?_
            refine ev_goto (tgt := 283) dX3_merges_274 (by decide) ?_
            refine mx_iast hM rfl dX3_merges_283 (by omega) (fun h hM => ?_)
            refine Ev.forget (T284 _ h hM ⟨fr.A (fr.F (fr.F (fr.more hg rfl rfl) rfl) rfl) rfl, ?_, ?_, ?_, ?_, ?_, ?_⟩) (by repeat' first | exact rfl | exact trivial | exact vz_eq (by omega) | refine And.intro ?_ ?_)
            · simp only [uS_1, uA_1, uF_1, uS_2, uA_2a, uF_2a, Nat.reduceEqDiff, reduceIte, Int.reduceToNat, Int.toNat_natCast]; rfl
            · simp only [uS_1, uA_1, uF_1, uS_2, uA_2a, uF_2a, Nat.reduceEqDiff, reduceIte, Int.reduceToNat, Int.toNat_natCast]; exact hl31
            · simp only [uS_1, uA_1, uF_1, uS_2, uA_2a, uF_2a, Nat.reduceEqDiff, reduceIte, Int.reduceToNat, Int.toNat_natCast]; exact hl32
            · intro e q he hq; simp only [uS_1, uA_1, uF_1, uS_2, uA_2a, uF_2a, Nat.reduceEqDiff, reduceIte, Int.reduceToNat, Int.toNat_natCast]; rw [hA e q he hq]; simp [mergeO, hL, he]
            · intro q hq; simp only [uS_1, uA_1, uF_1, uS_2, uA_2a, uF_2a, Nat.reduceEqDiff, reduceIte, Int.reduceToNat, Int.toNat_natCast]; rw [hB q hq, mCues_eq]; simp [mergeO, hL]
            · refine ⟨fun j hj i hi => ?_, fun x hx => ?_, fun x hx => ?_⟩
              · have hq := hlo.1 j hj i hi
                simp only [uS_1, uA_1, uF_1, uS_2, uA_2a, uF_2a, Nat.reduceEqDiff, reduceIte, Int.reduceToNat, Int.toNat_natCast, if_neg hi]; simp only [List.mem_cons, List.not_mem_nil, or_false] at hj; rcases hj with rfl | rfl | rfl | rfl | rfl | rfl | rfl | rfl | rfl <;> simp only [Nat.reduceEqDiff, reduceIte] <;> exact hq
              · simp only [uS_1, uA_1, uF_1, uS_2, uA_2a, uF_2a, Nat.reduceEqDiff, reduceIte, Int.reduceToNat, Int.toNat_natCast]; exact hAx x hx
              · simp only [uS_1, uA_1, uF_1, uS_2, uA_2a, uF_2a, Nat.reduceEqDiff, reduceIte, Int.reduceToNat, Int.toNat_natCast]; exact hBx x hx
  have T67 : ∀ (h : HM), MX g ad o h0 (uA s 31 o1 ((mergeO O P).2.2.1.1 : Nat)) h → Ev g mX3_merges d 0 0 (mP g ad o h0 (fun v s' => v = none ∧ fr s s' [] [26, 27, 28, 29, 30, 31, 32, 33, 34] ∧ opAt s' o1 (mergeO O P) ∧ opFr s s' o1)) 67 [some (.ref o), some (vz (o1 : Int)), none, some (vz ((mFrom O : Nat) : Int)), none, none] [] h := by
    intro h hM
    have hr32 : (uA s 31 o1 ((mergeO O P).2.2.1.1 : Nat)).2 32 o1 = bI O.2.2.1.2 := o32
    have hr17 : s.1 17 = P.1.1 := p17
    refine ev_aload_n dX3_merges_67 rfl ?_
    refine mx_getA hM dX3_merges_68 gf_X3_66_X3 rfl ?_
    refine ev_iload_n dX3_merges_71 rfl ?_
    refine ev_aload_n dX3_merges_72 rfl ?_
    refine mx_getA hM dX3_merges_73 gf_X3_66_X3 rfl ?_
    refine ev_iload_n dX3_merges_76 rfl ?_
    refine mx_zald hM rfl dX3_merges_77 (by omega) ?_
    try simp only [uS_1, uA_1, uF_1, uS_2, uA_2a, uF_2a, Nat.reduceEqDiff, reduceIte, Int.reduceToNat, Int.toNat_natCast]
    rw [o32]
    refine ev_if_neB (tgt := 92) dX3_merges_78 (by decide) (fun c78 => ?_) (fun c78 => ?_)
    · refine ev_iconstZ dX3_merges_92 ?_
      refine ev_to (b := bI (mLong O P)) (by unfold mLong; grind [bI]) ?_
      refine ev_goto (tgt := 97) dX3_merges_93 (by decide) ?_
      refine mx_zast hM rfl dX3_merges_97 (by omega) (bI_o _) (fun h hM => ?_)
      refine Ev.forget (T98 _ h hM (fr.A (fr.A (fr.refl _ _ _) rfl) rfl) ?_ ?_ ?_) (by repeat' first | exact rfl | exact trivial | exact vz_eq (by omega) | refine And.intro ?_ ?_)
      · simp only [uS_1, uA_1, uF_1, uS_2, uA_2a, uF_2a, Nat.reduceEqDiff, reduceIte, Int.reduceToNat, Int.toNat_natCast]
      · simp only [uS_1, uA_1, uF_1, uS_2, uA_2a, uF_2a, Nat.reduceEqDiff, reduceIte, Int.reduceToNat, Int.toNat_natCast]
      · refine ⟨fun j hj i hi => ?_, fun x hx => ?_, fun x hx => ?_⟩
        · simp only [uS_1, uA_1, uF_1, uS_2, uA_2a, uF_2a, Nat.reduceEqDiff, reduceIte, Int.reduceToNat, Int.toNat_natCast, if_neg hi]; simp only [List.mem_cons, List.not_mem_nil, or_false] at hj; rcases hj with rfl | rfl | rfl | rfl | rfl | rfl | rfl | rfl | rfl <;> rfl
        · simp only [uS_1, uA_1, uF_1, uS_2, uA_2a, uF_2a, Nat.reduceEqDiff, reduceIte, Int.reduceToNat, Int.toNat_natCast]
        · simp only [uS_1, uA_1, uF_1, uS_2, uA_2a, uF_2a, Nat.reduceEqDiff, reduceIte, Int.reduceToNat, Int.toNat_natCast]
    · refine ev_iload_n dX3_merges_81 rfl ?_
      refine ev_aload_n dX3_merges_82 rfl ?_
      refine mx_getI hM dX3_merges_83 gf_X3_141_X3 rfl ?_
      try simp only [uS_1, uA_1, uF_1, uS_2, uA_2a, uF_2a, Nat.reduceEqDiff, reduceIte, Int.reduceToNat, Int.toNat_natCast]
      rw [p17]
      refine ev_iaddZ dX3_merges_86 ?_
      refine ev_bipushZ dX3_merges_87 rfl ?_
      refine ev_icmp_leZ (tgt := 96) dX3_merges_89 (by decide) (by omega) (by omega) (fun c89 => ?_) (fun c89 => ?_)
      · refine ev_iconstZ dX3_merges_96 ?_
        refine ev_to (b := bI (mLong O P)) (by unfold mLong; grind [bI]) ?_
        refine mx_zast hM rfl dX3_merges_97 (by omega) (bI_o _) (fun h hM => ?_)
        refine Ev.forget (T98 _ h hM (fr.A (fr.A (fr.refl _ _ _) rfl) rfl) ?_ ?_ ?_) (by repeat' first | exact rfl | exact trivial | exact vz_eq (by omega) | refine And.intro ?_ ?_)
        · simp only [uS_1, uA_1, uF_1, uS_2, uA_2a, uF_2a, Nat.reduceEqDiff, reduceIte, Int.reduceToNat, Int.toNat_natCast]
        · simp only [uS_1, uA_1, uF_1, uS_2, uA_2a, uF_2a, Nat.reduceEqDiff, reduceIte, Int.reduceToNat, Int.toNat_natCast]
        · refine ⟨fun j hj i hi => ?_, fun x hx => ?_, fun x hx => ?_⟩
          · simp only [uS_1, uA_1, uF_1, uS_2, uA_2a, uF_2a, Nat.reduceEqDiff, reduceIte, Int.reduceToNat, Int.toNat_natCast, if_neg hi]; simp only [List.mem_cons, List.not_mem_nil, or_false] at hj; rcases hj with rfl | rfl | rfl | rfl | rfl | rfl | rfl | rfl | rfl <;> rfl
          · simp only [uS_1, uA_1, uF_1, uS_2, uA_2a, uF_2a, Nat.reduceEqDiff, reduceIte, Int.reduceToNat, Int.toNat_natCast]
          · simp only [uS_1, uA_1, uF_1, uS_2, uA_2a, uF_2a, Nat.reduceEqDiff, reduceIte, Int.reduceToNat, Int.toNat_natCast]
      · refine ev_iconstZ dX3_merges_92 ?_
        refine ev_to (b := bI (mLong O P)) (by unfold mLong; grind [bI]) ?_
        refine ev_goto (tgt := 97) dX3_merges_93 (by decide) ?_
        refine mx_zast hM rfl dX3_merges_97 (by omega) (bI_o _) (fun h hM => ?_)
        refine Ev.forget (T98 _ h hM (fr.A (fr.A (fr.refl _ _ _) rfl) rfl) ?_ ?_ ?_) (by repeat' first | exact rfl | exact trivial | exact vz_eq (by omega) | refine And.intro ?_ ?_)
        · simp only [uS_1, uA_1, uF_1, uS_2, uA_2a, uF_2a, Nat.reduceEqDiff, reduceIte, Int.reduceToNat, Int.toNat_natCast]
        · simp only [uS_1, uA_1, uF_1, uS_2, uA_2a, uF_2a, Nat.reduceEqDiff, reduceIte, Int.reduceToNat, Int.toNat_natCast]
        · refine ⟨fun j hj i hi => ?_, fun x hx => ?_, fun x hx => ?_⟩
          · simp only [uS_1, uA_1, uF_1, uS_2, uA_2a, uF_2a, Nat.reduceEqDiff, reduceIte, Int.reduceToNat, Int.toNat_natCast, if_neg hi]; simp only [List.mem_cons, List.not_mem_nil, or_false] at hj; rcases hj with rfl | rfl | rfl | rfl | rfl | rfl | rfl | rfl | rfl <;> rfl
          · simp only [uS_1, uA_1, uF_1, uS_2, uA_2a, uF_2a, Nat.reduceEqDiff, reduceIte, Int.reduceToNat, Int.toNat_natCast]
          · simp only [uS_1, uA_1, uF_1, uS_2, uA_2a, uF_2a, Nat.reduceEqDiff, reduceIte, Int.reduceToNat, Int.toNat_natCast]
  by_cases hl : O.1.1 = 6
  · refine ev_aload_n dX3_merges_0 rfl ?_
    refine mx_getI hM dX3_merges_1 gf_X3_174_X3 rfl ?_
    try simp only [uS_1, uA_1, uF_1, uS_2, uA_2a, uF_2a, Nat.reduceEqDiff, reduceIte, Int.reduceToNat, Int.toNat_natCast]
    refine ev_iconstZ dX3_merges_4 ?_
    refine ev_isubZ dX3_merges_5 ?_
    refine ev_to (b := (o1 : Int)) (by omega) ?_
    refine ev_istore_n dX3_merges_6 (by decide) rfl ?_
    dsimp only [List.set]
    refine ev_aload_n dX3_merges_7 rfl ?_
    refine mx_getA hM dX3_merges_8 gf_X3_42_X3 rfl ?_
    refine ev_iload_n dX3_merges_11 rfl ?_
    refine mx_iald hM rfl dX3_merges_12 (by omega) ?_
    try simp only [uS_1, uA_1, uF_1, uS_2, uA_2a, uF_2a, Nat.reduceEqDiff, reduceIte, Int.reduceToNat, Int.toNat_natCast]
    rw [o24]
    refine ev_bipushZ dX3_merges_13 rfl ?_
    refine ev_icmp_neZ (tgt := 22) dX3_merges_15 (by decide) (by omega) (by omega) (fun c => absurd (by omega) c) (fun _ => ?_)
    refine ev_iconstZ dX3_merges_18 ?_
    refine ev_goto (tgt := 23) dX3_merges_19 (by decide) ?_
    refine ev_istore_n dX3_merges_23 (by decide) rfl ?_
    dsimp only [List.set]
    refine ev_iload_n dX3_merges_24 rfl ?_
    refine ev_if_eqZ (tgt := 32) dX3_merges_25 (by decide) (by decide) (fun c => absurd c (by decide)) (fun _ => ?_)
    refine ev_iconstZ dX3_merges_28 ?_
    refine ev_to (b := ((mFrom O : Nat) : Int)) (by rw [mFrom_lay hl]; rfl) ?_
    refine ev_goto (tgt := 38) dX3_merges_29 (by decide) ?_
    refine ev_istore_n dX3_merges_38 (by decide) rfl ?_
    dsimp only [List.set]
    refine ev_aload_n dX3_merges_39 rfl ?_
    refine mx_getA hM dX3_merges_40 gf_X3_63_X3 rfl ?_
    refine ev_iload_n dX3_merges_43 rfl ?_
    refine ev_dup2 dX3_merges_44 rfl rfl ?_
    refine mx_iald hM rfl dX3_merges_45 (by omega) ?_
    try simp only [uS_1, uA_1, uF_1, uS_2, uA_2a, uF_2a, Nat.reduceEqDiff, reduceIte, Int.reduceToNat, Int.toNat_natCast]
    rw [o31]
    refine ev_iload_n dX3_merges_46 rfl ?_
    refine ev_if_eqZ (tgt := 64) dX3_merges_47 (by decide) (by decide) (fun c => absurd c (by decide)) (fun _ => ?_)
    refine ev_aload_n dX3_merges_50 rfl ?_
    refine mx_getA hM dX3_merges_51 gf_X3_54_X3 rfl ?_
    refine ev_iload_n dX3_merges_54 rfl ?_
    refine mx_iald hM rfl dX3_merges_55 (by omega) ?_
    try simp only [uS_1, uA_1, uF_1, uS_2, uA_2a, uF_2a, Nat.reduceEqDiff, reduceIte, Int.reduceToNat, Int.toNat_natCast]
    rw [o28]
    refine ev_aload_n dX3_merges_56 rfl ?_
    refine mx_getI hM dX3_merges_57 gf_X3_144_X3 rfl ?_
    try simp only [uS_1, uA_1, uF_1, uS_2, uA_2a, uF_2a, Nat.reduceEqDiff, reduceIte, Int.reduceToNat, Int.toNat_natCast]
    rw [p18]
    refine ev_iandZ (a := O.2.1.2.1) (b := P.1.2.1) dX3_merges_60 (by omega) (by omega) ?_
    refine ev_goto (tgt := 65) dX3_merges_61 (by decide) ?_
    refine ev_iorZ (a := O.2.2.1.1) (b := O.2.1.2.1 &&& P.1.2.1) dX3_merges_65 (by omega) (by have := and_lt (b := P.1.2.1) (show O.2.1.2.1 < 256 by omega); omega) ?_
    refine ev_to (b := (((mergeO O P).2.2.1.1 : Nat) : Int)) (by simp [mergeO, hl]) ?_
    refine mx_iast hM rfl dX3_merges_66 (by omega) (fun h hM => ?_)
    rw [Int.toNat_natCast] at hM
    exact Ev.forget (T67 h hM) (by repeat' first | exact rfl | exact trivial | exact vz_eq (by omega) | refine And.intro ?_ ?_)
  · refine ev_aload_n dX3_merges_0 rfl ?_
    refine mx_getI hM dX3_merges_1 gf_X3_174_X3 rfl ?_
    try simp only [uS_1, uA_1, uF_1, uS_2, uA_2a, uF_2a, Nat.reduceEqDiff, reduceIte, Int.reduceToNat, Int.toNat_natCast]
    refine ev_iconstZ dX3_merges_4 ?_
    refine ev_isubZ dX3_merges_5 ?_
    refine ev_to (b := (o1 : Int)) (by omega) ?_
    refine ev_istore_n dX3_merges_6 (by decide) rfl ?_
    dsimp only [List.set]
    refine ev_aload_n dX3_merges_7 rfl ?_
    refine mx_getA hM dX3_merges_8 gf_X3_42_X3 rfl ?_
    refine ev_iload_n dX3_merges_11 rfl ?_
    refine mx_iald hM rfl dX3_merges_12 (by omega) ?_
    try simp only [uS_1, uA_1, uF_1, uS_2, uA_2a, uF_2a, Nat.reduceEqDiff, reduceIte, Int.reduceToNat, Int.toNat_natCast]
    rw [o24]
    refine ev_bipushZ dX3_merges_13 rfl ?_
    refine ev_icmp_neZ (tgt := 22) dX3_merges_15 (by decide) (by omega) (by omega) (fun _ => ?_) (fun c => absurd (by omega) hl)
    refine ev_iconstZ dX3_merges_22 ?_
    refine ev_istore_n dX3_merges_23 (by decide) rfl ?_
    dsimp only [List.set]
    refine ev_iload_n dX3_merges_24 rfl ?_
    refine ev_if_eqZ (tgt := 32) dX3_merges_25 (by decide) (by decide) (fun _ => ?_) (fun c => absurd rfl c)
    refine ev_aload_n dX3_merges_32 rfl ?_
    refine mx_getA hM dX3_merges_33 gf_X3_51_X3 rfl ?_
    refine ev_iload_n dX3_merges_36 rfl ?_
    refine mx_iald hM rfl dX3_merges_37 (by omega) ?_
    try simp only [uS_1, uA_1, uF_1, uS_2, uA_2a, uF_2a, Nat.reduceEqDiff, reduceIte, Int.reduceToNat, Int.toNat_natCast]
    rw [o27]
    refine ev_to (b := ((mFrom O : Nat) : Int)) (by rw [mFrom_ser hl]) ?_
    refine ev_istore_n dX3_merges_38 (by decide) rfl ?_
    dsimp only [List.set]
    refine ev_aload_n dX3_merges_39 rfl ?_
    refine mx_getA hM dX3_merges_40 gf_X3_63_X3 rfl ?_
    refine ev_iload_n dX3_merges_43 rfl ?_
    refine ev_dup2 dX3_merges_44 rfl rfl ?_
    refine mx_iald hM rfl dX3_merges_45 (by omega) ?_
    try simp only [uS_1, uA_1, uF_1, uS_2, uA_2a, uF_2a, Nat.reduceEqDiff, reduceIte, Int.reduceToNat, Int.toNat_natCast]
    rw [o31]
    refine ev_iload_n dX3_merges_46 rfl ?_
    refine ev_if_eqZ (tgt := 64) dX3_merges_47 (by decide) (by decide) (fun _ => ?_) (fun c => absurd rfl c)
    refine ev_iconstZ dX3_merges_64 ?_
    refine ev_iorZ (a := O.2.2.1.1) (b := 0) dX3_merges_65 (by omega) (by omega) ?_
    refine ev_to (b := (((mergeO O P).2.2.1.1 : Nat) : Int)) (by simp [mergeO, hl]) ?_
    refine mx_iast hM rfl dX3_merges_66 (by omega) (fun h hM => ?_)
    rw [Int.toNat_natCast] at hM
    exact Ev.forget (T67 h hM) (by repeat' first | exact rfl | exact trivial | exact vz_eq (by omega) | refine And.intro ?_ ?_)
end M5

/-! THE COMPONENT: perform() of the other nodes (printed by gen) -/
section L5S
variable {g : GB} {M : MI} {d c k : Nat} {h : HM}
theorem ScH.congr {h : HM} {sc n ss cu ru : Nat} {S S' : Nat → Nat → Int} {C C' : Nat → Int} (K : ScH g h sc n ss cu ru S C) (hS : ∀ e k : Nat, e < 8 → k < n → S e k = S' e k) (hC : ∀ k : Nat, k ≤ n → C k = C' k) : ScH g h sc n ss cu ru S' C' := by
  obtain ⟨A, B, K1, hA, hB⟩ := K
  exact ⟨A, B, K1, fun e k he hk => (hA e k he hk).trans (hS e k he hk), fun k hk => (hB k hk).trans (hC k hk)⟩
theorem ScH.kc {M : MI} {d c k : Nat} {as : List Value} {h : HM} {sc n ss cu ru : Nat} {S S' : Nat → Nat → Int} {C C' : Nat → Int} (hS : ∀ e k : Nat, e < 8 → k < n → S e k = S' e k) (hC : ∀ k : Nat, k ≤ n → C k = C' k) (kk : Kc g M d c k as h (rR (fun v h' => v = none ∧ ScH g h' sc n ss cu ru S C ∧ Fr g h h' (scS ss cu)))) : Kc g M d c k as h (rR (fun v h' => v = none ∧ ScH g h' sc n ss cu ru S' C' ∧ Fr g h h' (scS ss cu))) :=
  kk.mono (fun r h' ⟨v, e1, e2, K, F⟩ => ⟨v, e1, e2, K.congr hS hC, F⟩)
set_option maxRecDepth 100000 in
set_option maxHeartbeats 4000000 in
theorem k_pf14 {a q κ D sc n ss cu ru fm r : Nat} {b : Bool} {I : HM} {S : Nat → Nat → Int} {C : Nat → Int} {P : Pt} (hG : GKx g) (hI : Sub I h) (hS : scI I ss cu) (hIa : I a = some (.inr (10, [.ref q]))) (hkc : ∃ fs, I q = some (.inr (nCi κ, fs))) (hk : Pf g I D κ q P) (hK : ScH g h sc n ss cu ru S C) (hr : r < 4) (hn : n ≤ 99) (hf : fm + P.1.1 ≤ n) (hdot : ∀ e : Nat, e < 8 → P.1.2.1.testBit e = true → ∀ k : Nat, fm ≤ k → k < fm + P.1.1 → S e k = 46) (hd : D + 1 ≤ d) : Kc g mX14_perform d (0) (0) [.ref a, .ref sc, vz ((fm : Nat) : Int), vz ((r : Nat) : Int), vz (bI b)] h (rR (fun v h' => v = none ∧ ScH g h' sc n ss cu ru (pfS P fm (r ^^^ 1) b S) (pfC P fm b C) ∧ Fr g h h' (scS ss cu))) := by
  refine Kc.of (ls := [some (.ref a), some (.ref sc), some (vz ((fm : Nat) : Int)), some (vz ((r : Nat) : Int)), some (vz (bI b))]) (by decide +kernel) (Nat.le_of_ble_eq_true rfl) rfl ?_
  have ha := hI _ _ hIa
  have hr9 : r ^^^ 1 < 4 := Nat.xor_lt_two_pow (n := 2) hr (by decide)
  refine ev_aload_n dX14_perform_0 rfl ?_
  refine ev_getf dX14_perform_1 gf_X14_9_X14 ha rfl ?_
  refine ev_aload_n dX14_perform_4 rfl ?_
  refine ev_iload_n dX14_perform_5 rfl ?_
  refine ev_iload_n dX14_perform_6 rfl ?_
  refine ev_iconstZ dX14_perform_7 ?_
  refine ev_ixorZ (a := r) (b := 1) dX14_perform_8 (by omega) (by omega) ?_
  refine ev_iload dX14_perform_9 rfl ?_
  refine ev_callNR dX14_perform_11 (nv_X14_15 hG) fe_perform (hkc.imp (fun fs e => hI _ _ e)) rfl rfl (hk _ sc n ss cu ru _ _ (fm) (r ^^^ 1) (b) hI hS hK hr9 hn hf hdot) (by omega) (Nat.zero_le _) (Nat.zero_le _) (Nat.le_of_ble_eq_true rfl) (fun v1 h1 P1 => ?_)
  obtain ⟨rfl, K1, G1⟩ := P1
  refine ev_return dX14_perform_14 rfl ?_
  exact ⟨_, rfl, rfl, K1, G1⟩
set_option maxRecDepth 100000 in
set_option maxHeartbeats 4000000 in
theorem k_pf15 {a q κ D sc n ss cu ru fm r : Nat} {b : Bool} {I : HM} {S : Nat → Nat → Int} {C : Nat → Int} {P : Pt} (hG : GKx g) (hI : Sub I h) (hS : scI I ss cu) (hIa : I a = some (.inr (11, [.ref q]))) (hkc : ∃ fs, I q = some (.inr (nCi κ, fs))) (hk : Pf g I D κ q P) (hK : ScH g h sc n ss cu ru S C) (hr : r < 4) (hn : n ≤ 99) (hf : fm + P.1.1 ≤ n) (hdot : ∀ e : Nat, e < 8 → P.1.2.1.testBit e = true → ∀ k : Nat, fm ≤ k → k < fm + P.1.1 → S e k = 46) (hd : D + 1 ≤ d) : Kc g mX15_perform d (0) (0) [.ref a, .ref sc, vz ((fm : Nat) : Int), vz ((r : Nat) : Int), vz (bI b)] h (rR (fun v h' => v = none ∧ ScH g h' sc n ss cu ru (pfS P fm (r ^^^ 2) (!b) S) (pfC P fm (!b) C) ∧ Fr g h h' (scS ss cu))) := by
  refine Kc.of (ls := [some (.ref a), some (.ref sc), some (vz ((fm : Nat) : Int)), some (vz ((r : Nat) : Int)), some (vz (bI b))]) (by decide +kernel) (Nat.le_of_ble_eq_true rfl) rfl ?_
  have ha := hI _ _ hIa
  have hr9 : r ^^^ 2 < 4 := Nat.xor_lt_two_pow (n := 2) hr (by decide)
  refine ev_aload_n dX15_perform_0 rfl ?_
  refine ev_getf dX15_perform_1 gf_X15_9_X15 ha rfl ?_
  refine ev_aload_n dX15_perform_4 rfl ?_
  refine ev_iload_n dX15_perform_5 rfl ?_
  refine ev_iload_n dX15_perform_6 rfl ?_
  refine ev_iconstZ dX15_perform_7 ?_
  refine ev_ixorZ (a := r) (b := 2) dX15_perform_8 (by omega) (by omega) ?_
  refine ev_iload dX15_perform_9 rfl ?_
  refine ev_if_neB (tgt := 18) dX15_perform_11 (by decide) (fun c11 => ?_) (fun c11 => ?_)
  · subst c11
    refine ev_iconstZ dX15_perform_18 ?_
    refine ev_callNR dX15_perform_19 (nv_X15_15 hG) fe_perform (hkc.imp (fun fs e => hI _ _ e)) rfl rfl (hk _ sc n ss cu ru _ _ (fm) (r ^^^ 2) ((!true)) hI hS hK hr9 hn hf hdot) (by omega) (Nat.zero_le _) (Nat.zero_le _) (Nat.le_of_ble_eq_true rfl) (fun v1 h1 P1 => ?_)
    obtain ⟨rfl, K1, G1⟩ := P1
    refine ev_return dX15_perform_22 rfl ?_
    exact ⟨_, rfl, rfl, K1, G1⟩
  · subst c11
    refine ev_iconstZ dX15_perform_14 ?_
    refine ev_goto (tgt := 19) dX15_perform_15 (by decide) ?_
    refine ev_callNR dX15_perform_19 (nv_X15_15 hG) fe_perform (hkc.imp (fun fs e => hI _ _ e)) rfl rfl (hk _ sc n ss cu ru _ _ (fm) (r ^^^ 2) ((!false)) hI hS hK hr9 hn hf hdot) (by omega) (Nat.zero_le _) (Nat.zero_le _) (Nat.le_of_ble_eq_true rfl) (fun v2 h2 P2 => ?_)
    obtain ⟨rfl, K2, G2⟩ := P2
    refine ev_return dX15_perform_22 rfl ?_
    exact ⟨_, rfl, rfl, K2, G2⟩
set_option maxRecDepth 100000 in
set_option maxHeartbeats 4000000 in
theorem k_pf10 {a q κ D D2 t sc n ss cu ru fm r : Nat} {b : Bool} {I : HM} {S : Nat → Nat → Int} {C : Nat → Int} {P : Pt} (hG : GKx g) (hI : Sub I h) (hS : scI I ss cu) (hIa : I a = some (.inr (7, [.ref q, vz ((t : Nat) : Int)]))) (hkc : ∃ fs, I q = some (.inr (nCi κ, fs))) (hk : Pf g I D κ q P) (hK : ScH g h sc n ss cu ru S C) (hr : r < 4) (hn : n ≤ 99) (hf : fm + P.1.1 * t ≤ n) (hdot : ∀ e : Nat, e < 8 → P.1.2.1.testBit e = true → ∀ k : Nat, fm ≤ k → k < fm + P.1.1 * t → S e k = 46) (ht : t < 10) (hlen : Kc g (fam_length κ) D2 0 0 [.ref q] h (sR (some (vz ((P.1.1 : Nat) : Int))) h)) (hd : D + 1 ≤ d ∧ D2 + 1 ≤ d) : Kc g mX10_perform d (0) (0) [.ref a, .ref sc, vz ((fm : Nat) : Int), vz ((r : Nat) : Int), vz (bI b)] h (rR (fun v h' => v = none ∧ ScH g h' sc n ss cu ru (rpS P fm r b S t) (rpC P fm b C t) ∧ Fr g h h' (scS ss cu))) := by
  refine Kc.of (ls := [some (.ref a), some (.ref sc), some (vz ((fm : Nat) : Int)), some (vz ((r : Nat) : Int)), some (vz (bI b)), none, none]) (by decide +kernel) (Nat.le_of_ble_eq_true rfl) rfl ?_
  have ha := hI _ _ hIa
  have hp99 : P.1.1 ≤ 99 ∨ t = 0 := by
    rcases Nat.eq_zero_or_pos t with z | z
    · exact Or.inr z
    · have : P.1.1 * 1 ≤ P.1.1 * t := Nat.mul_le_mul_left _ z
      exact Or.inl (by omega)
  refine ev_aload_n dX10_perform_0 rfl ?_
  refine ev_getf dX10_perform_1 gf_X10_20_X10 ha rfl ?_
  refine ev_callNE dX10_perform_4 (nv_X10_24 hG) fe_length (hkc.imp (fun fs e => hI _ _ e)) rfl rfl (hlen) (by omega) (Nat.le_of_ble_eq_true rfl) ?_
  refine ev_istore dX10_perform_7 (by decide) rfl ?_
  dsimp only [List.set]
  refine ev_iconstZ dX10_perform_9 ?_
  refine ev_istore dX10_perform_10 (by decide) rfl ?_
  dsimp only [List.set]
  refine ev_for (st := []) t (fun i h1 => ScH g h1 sc n ss cu ru (rpS P fm r b S i) (rpC P fm b C i) ∧ Fr g h h1 (scS ss cu)) (fun i => [some (.ref a), some (.ref sc), some (vz ((fm : Nat) : Int)), some (vz ((r : Nat) : Int)), some (vz (bI b)), some (vz ((P.1.1 : Nat) : Int)), some (vz ((i : Nat) : Int))]) 0 (Nat.zero_le _) ⟨hK.congr (fun e k _ _ => by unfold rpS; rw [if_neg (by omega)]) (fun k _ => by unfold rpC; simp [sumN]), Fr.refl _ _⟩ ⟨rfl, rfl, rfl, rfl, rfl, rfl, rfl, trivial⟩ (fun i h1 _ hi hP1 hN => ?_) (fun h1 hP1 => ?_)
  · obtain ⟨K1, F1⟩ := hP1
    have hI1 := hS.sub hI F1
    have ha1 := hI1 _ _ hIa
    have hmul : P.1.1 * (i + 1) ≤ P.1.1 * t := Nat.mul_le_mul_left _ hi
    rw [Nat.mul_succ] at hmul
    have hf1 : fm + P.1.1 * i + P.1.1 ≤ n := by omega
    have hdot1 : ∀ e : Nat, e < 8 → P.1.2.1.testBit e = true → ∀ k : Nat, fm + P.1.1 * i ≤ k → k < fm + P.1.1 * i + P.1.1 → rpS P fm r b S i e k = 46 := fun e he hb k k1 k2 => by
      unfold rpS
      rw [if_neg (by omega)]
      exact hdot e he hb k (by omega) (by omega)
    refine ev_iload dX10_perform_12 rfl ?_
    refine ev_aload_n dX10_perform_14 rfl ?_
    refine ev_getf dX10_perform_15 gf_X10_7_X10 ha1 rfl ?_
    refine ev_icmp_geZ (tgt := 45) dX10_perform_18 (by decide) (by omega) (by omega) (fun c18 => by omega) (fun c18 => ?_)
    refine ev_aload_n dX10_perform_21 rfl ?_
    refine ev_getf dX10_perform_22 gf_X10_20_X10 ha1 rfl ?_
    refine ev_aload_n dX10_perform_25 rfl ?_
    refine ev_iload_n dX10_perform_26 rfl ?_
    refine ev_iload dX10_perform_27 rfl ?_
    refine ev_iload dX10_perform_29 rfl ?_
    refine ev_imulZ dX10_perform_31 ?_
    refine ev_to (b := ((P.1.1 * i : Nat) : Int)) (by rw [Int.natCast_mul, Int.mul_comm]) ?_
    refine ev_iaddZ dX10_perform_32 ?_
    refine ev_to (b := ((fm + P.1.1 * i : Nat) : Int)) (by omega) ?_
    refine ev_iload_n dX10_perform_33 rfl ?_
    refine ev_iload dX10_perform_34 rfl ?_
    refine ev_callNR dX10_perform_36 (nv_X10_27 hG) fe_perform (hkc.imp (fun fs e => hI1 _ _ e)) rfl rfl (hk _ sc n ss cu ru _ _ (fm + P.1.1 * i) (r) (b) hI1 hS K1 hr hn hf1 hdot1) (by omega) (Nat.zero_le _) (Nat.zero_le _) (Nat.le_of_ble_eq_true rfl) (fun v1 h1 P1 => ?_)
    obtain ⟨rfl, K1, G1⟩ := P1
    refine ev_iincZ dX10_perform_39 rfl (by decide) rfl ?_
    dsimp only [List.set]
    refine ev_goto (tgt := 12) dX10_perform_42 (by decide) ?_
    exact hN _ _ (by repeat' first | exact rfl | exact trivial | exact vz_eq (by omega) | refine And.intro ?_ ?_) ⟨K1.congr (fun e k _ _ => rpS_step e k) (fun k _ => rpC_step k), F1.call G1 (fun x hx => Or.inl hx)⟩
  · obtain ⟨K1, F1⟩ := hP1
    have hI1 := hS.sub hI F1
    have ha1 := hI1 _ _ hIa
    refine ev_iload dX10_perform_12 rfl ?_
    refine ev_aload_n dX10_perform_14 rfl ?_
    refine ev_getf dX10_perform_15 gf_X10_7_X10 ha1 rfl ?_
    refine ev_icmp_geZ (tgt := 45) dX10_perform_18 (by decide) (by omega) (by omega) (fun c18 => ?_) (fun c18 => by omega)
    refine ev_return dX10_perform_45 rfl ?_
    exact ⟨_, rfl, rfl, K1, F1⟩
/-- what is known while the parts of a node go by -/
def foldO (O : Op) (ps : List Pt) : Op := ps.foldl mergeO O
theorem foldO_take {O : Op} {ps : List Pt} {i : Nat} {P : Pt} (h : ps[i]? = some P) : foldO O (ps.take (i + 1)) = mergeO (foldO O (ps.take i)) P := by
  unfold foldO; rw [take_snoc h, List.foldl_append]; rfl
theorem foldO_mono : ∀ (ps : List Pt) (O : Op), (foldO O ps).2.2.1.2 = false → O.2.2.1.2 = false ∧ O.2.1.1 ≤ (foldO O ps).2.1.1 ∧ ((foldO O ps).2.2.1.1 = 0 → O.2.2.1.1 = 0) ∧ (∀ e, O.2.1.2.1.testBit e = true → (foldO O ps).2.1.2.1.testBit e = true) ∧ (foldO O ps).1.1 = O.1.1 := by
  intro ps
  induction ps with
  | nil => intro O h; exact ⟨h, Nat.le_refl _, fun h => h, fun _ h => h, rfl⟩
  | cons P ps ih =>
    intro O h
    obtain ⟨h1, h2, h3, h4, h5⟩ := ih (mergeO O P) h
    have hl : mLong O P = false := h1
    have hz : (mergeO O P).2.1.1 = max (mFrom O + P.1.1) O.2.1.1 := by show (if mLong O P then _ else _) = _; rw [hl]; rfl
    have ht : (mergeO O P).2.2.1.1 = O.2.2.1.1 ||| (if O.1.1 = 6 then O.2.1.2.1 &&& P.1.2.1 else 0) := rfl
    have hu : (mergeO O P).2.1.2.1 = O.2.1.2.1 ||| P.1.2.1 := rfl
    refine ⟨?_, Nat.le_trans ?_ h2, fun q => ?_, fun e he => h4 e (by rw [hu, Nat.testBit_or, he]; rfl), h5⟩
    · unfold mLong at hl
      cases hb : O.2.2.1.2 with
      | false => rfl
      | true => rw [hb] at hl; cases hl
    · rw [hz]; omega
    · have := h3 q
      rw [ht] at this
      exact (Nat.or_eq_zero_iff.mp this).1
theorem nrO_fold : ∀ (ps : List Pt) (O : Op), nrO O → (∀ P ∈ ps, nrP P) → nrO (foldO O ps) := by
  intro ps
  induction ps with
  | nil => intro O h _; exact h
  | cons P ps ih => intro O h hp; exact ih _ (nrO_merge h (hp P List.mem_cons_self)) (fun Q hQ => hp Q (List.mem_cons_of_mem _ hQ))
theorem nrO_open (nd : Nd) : nrO (openO nd) := fun _ => ⟨⟨fun _ _ => rfl, rfl⟩, fun _ _ _ _ => rfl⟩
theorem mFrom_next {O : Op} {Q : Pt} (hlg : mLong O Q = false) : mFrom (mergeO O Q) = mFrom O + (if O.1.1 = 6 then 0 else Q.1.1) := by
  have hz : (mergeO O Q).2.1.1 = max (mFrom O + Q.1.1) O.2.1.1 := by show (if mLong O Q then _ else _) = _; rw [hlg]; rfl
  have hk : (mergeO O Q).1.1 = O.1.1 := rfl
  by_cases h6 : O.1.1 = 6
  · have e1 : mFrom O = 0 := if_pos h6
    have e2 : mFrom (mergeO O Q) = 0 := if_pos (hk.trans h6)
    rw [e1, e2, if_pos h6]
  · have e1 : mFrom O = O.2.1.1 := if_neg h6
    have e2 : mFrom (mergeO O Q) = (mergeO O Q).2.1.1 := if_neg (by rw [hk]; exact h6)
    rw [e2, hz, e1, if_neg h6]; omega
/-- the next part of a node -/
theorem fold_next {nd : Nd} {ps : List Pt} {i : Nat} {P : Pt} (hi : ps[i]? = some P) (hn : ∀ P ∈ ps, nrP P) (hl : (foldO (openO nd) ps).2.2.1.2 = false) (ht : (foldO (openO nd) ps).2.2.1.1 = 0) :
    mLong (foldO (openO nd) (ps.take i)) P = false ∧ mFrom (foldO (openO nd) (ps.take i)) + P.1.1 ≤ (foldO (openO nd) ps).2.1.1 ∧ cOk (foldO (openO nd) (ps.take i)).2.1.1 (foldO (openO nd) (ps.take i)).2.1.2.2.2 (foldO (openO nd) (ps.take i)).2.2.2.2 ∧ sOk (foldO (openO nd) (ps.take i)).2.1.1 (foldO (openO nd) (ps.take i)).2.1.2.1 (foldO (openO nd) (ps.take i)).2.2.2.1 ∧ (∀ e, P.1.2.1.testBit e = true → (foldO (openO nd) ps).2.1.2.1.testBit e = true) ∧
      (∀ e : Nat, e < 8 → P.1.2.1.testBit e = true → ∀ q : Nat, mFrom (foldO (openO nd) (ps.take i)) ≤ q → q < mFrom (foldO (openO nd) (ps.take i)) + P.1.1 → (foldO (openO nd) (ps.take i)).2.2.2.1 e q = 0) := by
  have es : ps = ps.take (i + 1) ++ ps.drop (i + 1) := (List.take_append_drop _ _).symm
  have ef : foldO (openO nd) ps = foldO (mergeO (foldO (openO nd) (ps.take i)) P) (ps.drop (i + 1)) := by
    conv => lhs; rw [es]
    unfold foldO
    rw [List.foldl_append]
    exact congrArg (fun O => List.foldl mergeO O _) (foldO_take hi)
  obtain ⟨O, hO⟩ : ∃ O, O = foldO (openO nd) (ps.take i) := ⟨_, rfl⟩
  rw [← hO] at ef ⊢
  rw [ef] at hl ht
  obtain ⟨h1, h2, h3, h4, h5⟩ := foldO_mono _ _ hl
  have hlg : mLong O P = false := h1
  have hz : (mergeO O P).2.1.1 = max (mFrom O + P.1.1) O.2.1.1 := by show (if mLong O P then _ else _) = _; rw [hlg]; rfl
  have hOl : O.2.2.1.2 = false := by
    unfold mLong at hlg
    cases hb : O.2.2.1.2 with
    | false => rfl
    | true => rw [hb] at hlg; cases hlg
  have hnO : nrO O := by rw [hO]; exact nrO_fold _ _ (nrO_open nd) (fun Q hQ => hn Q (List.mem_of_mem_take hQ))
  obtain ⟨n1, n2⟩ := hnO hOl
  refine ⟨hlg, ?_, n1, n2, fun e he => ?_, fun e he hb q q1 q2 => ?_⟩
  · rw [ef]; refine Nat.le_trans ?_ h2; rw [hz]; omega
  · rw [ef]; exact h4 e (by show (O.2.1.2.1 ||| P.1.2.1).testBit e = true; rw [Nat.testBit_or, he, Bool.or_true])
  · by_cases h6 : O.1.1 = 6
    · have ht1 := h3 ht
      have ht2 : O.2.2.1.1 ||| (if O.1.1 = 6 then O.2.1.2.1 &&& P.1.2.1 else 0) = 0 := ht1
      rw [if_pos h6] at ht2
      have ht3 := (Nat.or_eq_zero_iff.mp ht2).2
      refine n2 e q he (Or.inr ?_)
      have : (O.2.1.2.1 &&& P.1.2.1).testBit e = false := by rw [ht3]; exact Nat.zero_testBit e
      rw [Nat.testBit_and, hb, Bool.and_true] at this
      exact this
    · have hf : mFrom O = O.2.1.1 := if_neg h6
      exact n2 e q he (Or.inl (by omega))
set_option maxRecDepth 100000 in
set_option maxHeartbeats 4000000 in
theorem k_pf16 {a pl v cap D D2 sc n ss cu ru fm r : Nat} {b : Bool} {I : HM} {S : Nat → Nat → Int} {C : Nat → Int} {nd : Nd} {ps : List Pt} {as : List Nat} {mc : Int} {f : Nat → Option Nat} (hG : GKx g) (hI : Sub I h) (hS : scI I ss cu) (hIa : I a = some (.inr (12, [vz (bI (decide (nd.1 = 6))), .ref pl]))) (hIpl : I pl = some (.inr (29, [vz mc, .ref v, vz ((as.length : Nat) : Int)]))) (hIv : I v = some (.inl (9, (cap, .inr (.inr (.inr (.inr (f)))))))) (hf9 : ∀ i : Nat, i < as.length → f i = as[i]?) (hcap : as.length ≤ cap) (hal : as.length < 1000000) (hpl9 : as.length = ps.length) (hpart : ∀ (i q : Nat) (Q : Pt), as[i]? = some q → ps[i]? = some Q → ∃ κ : Nat, (∃ fs, I q = some (.inr (nCi κ, fs))) ∧ (∀ h1 : HM, Sub I h1 → Kc g (fam_length κ) D2 0 0 [.ref q] h1 (sR (some (vz ((Q.1.1 : Nat) : Int))) h1)) ∧ Pf g I D κ q Q) (hnr : ∀ P ∈ ps, nrP P) (hlong : (foldO (openO nd) ps).2.2.1.2 = false) (htw : (foldO (openO nd) ps).2.2.1.1 = 0) (hlen9 : Kc g mX16_length D2 0 0 [.ref a] h (sR (some (vz (((foldO (openO nd) ps).2.1.1 : Nat) : Int))) h)) (hK : ScH g h sc n ss cu ru S C) (hr : r < 4) (hn : n ≤ 99) (hf : fm + (foldO (openO nd) ps).2.1.1 ≤ n) (hdot : ∀ e : Nat, e < 8 → (foldO (openO nd) ps).2.1.2.1.testBit e = true → ∀ k : Nat, fm ≤ k → k < fm + (foldO (openO nd) ps).2.1.1 → S e k = 46) (hd : D + 1 ≤ d ∧ D2 + 1 ≤ d ∧ 4 ≤ d) : Kc g mX16_perform d (0) (0) [.ref a, .ref sc, vz ((fm : Nat) : Int), vz ((r : Nat) : Int), vz (bI b)] h (rR (fun v h' => v = none ∧ ScH g h' sc n ss cu ru (oS (foldO (openO nd) ps) (foldO (openO nd) ps).2.1.1 fm r b S) (oC (foldO (openO nd) ps) (foldO (openO nd) ps).2.1.1 fm b C) ∧ Fr g h h' (scS ss cu))) := by
  refine Kc.of (ls := [some (.ref a), some (.ref sc), some (vz ((fm : Nat) : Int)), some (vz ((r : Nat) : Int)), some (vz (bI b)), none, none, none, none, none]) (by decide +kernel) (Nat.le_of_ble_eq_true rfl) rfl ?_
  have ha := hI _ _ hIa
  have hpl := hI _ _ hIpl
  have hv := hI _ _ hIv
  have hkd : ∀ i, (foldO (openO nd) (ps.take i)).1.1 = nd.1 := fun i => by
    have : ∀ (ps : List Pt) (O : Op), (foldO O ps).1.1 = O.1.1 := fun ps => by
      induction ps with
      | nil => intro O; rfl
      | cons P t ih => intro O; exact ih _
    exact this _ _
  refine ev_iconstZ dX16_perform_0 ?_
  refine ev_istore dX16_perform_1 (by decide) rfl ?_
  dsimp only [List.set]
  refine ev_aload_n dX16_perform_3 rfl ?_
  refine ev_callVE dX16_perform_4 cv_X16_58_X16 ce_X16_length ha rfl rfl rfl (hlen9) (by omega) (Nat.le_of_ble_eq_true rfl) ?_
  refine ev_istore dX16_perform_7 (by decide) rfl ?_
  dsimp only [List.set]
  refine ev_iconstZ dX16_perform_9 ?_
  refine ev_istore dX16_perform_10 (by decide) rfl ?_
  dsimp only [List.set]
  refine ev_for (st := []) as.length (fun i h1 => ScH g h1 sc n ss cu ru (oS (foldO (openO nd) (ps.take i)) (foldO (openO nd) ps).2.1.1 fm r b S) (oC (foldO (openO nd) (ps.take i)) (foldO (openO nd) ps).2.1.1 fm b C) ∧ Fr g h h1 (scS ss cu)) (fun i => [some (.ref a), some (.ref sc), some (vz ((fm : Nat) : Int)), some (vz ((r : Nat) : Int)), some (vz (bI b)), some (vz ((mFrom (foldO (openO nd) (ps.take i)) : Nat) : Int)), some (vz (((foldO (openO nd) ps).2.1.1 : Nat) : Int)), some (vz ((i : Nat) : Int)), none, none]) 0 (Nat.zero_le _) ⟨hK.congr (fun e k _ _ => by unfold oS; rw [if_neg (fun q => by have q2 := q.2.2; exact absurd q2 (by show ¬ (0 : Nat).testBit e = true; rw [Nat.zero_testBit]; decide))]) (fun k _ => by unfold oC; split <;> simp [foldO, openO]), Fr.refl _ _⟩ ⟨rfl, rfl, rfl, rfl, rfl, by show _ = some (vz ((mFrom (openO nd) : Nat) : Int)); unfold mFrom; split <;> rfl, rfl, rfl, trivial⟩ (fun i h1 _ hi hP1 hN => ?_) (fun h1 hP1 => ?_)
  · obtain ⟨K1, F1⟩ := hP1
    have hI1 := hS.sub hI F1
    have ha1 := hI1 _ _ hIa
    have hpl1 := hI1 _ _ hIpl
    have hv1 := hI1 _ _ hIv
    obtain ⟨q, hq⟩ : ∃ q, as[i]? = some q := ⟨_, List.getElem?_eq_getElem hi⟩
    obtain ⟨Q, hpi⟩ : ∃ Q, ps[i]? = some Q := ⟨_, List.getElem?_eq_getElem (by omega)⟩
    obtain ⟨κ, hkc, hlq0, hk⟩ := hpart i q Q hq hpi
    have hlq := hlq0 h1 hI1
    have hQn := hnr Q (List.mem_of_getElem? hpi)
    obtain ⟨hlg, hlen1, hco, hso, hub, hzz⟩ := fold_next (nd := nd) hpi hnr hlong htw
    have hf1 : atF b (foldO (openO nd) ps).2.1.1 fm (mFrom (foldO (openO nd) (ps.take i))) Q.1.1 + Q.1.1 ≤ n := by unfold atF; cases b <;> simp only [if_true, if_false, Bool.false_eq_true] <;> omega
    have hdot1 := oS_dot (r := r) (b := b) hso hlen1 (fun e k he hb k1 k2 => hdot e he (hub e hb) k k1 k2) hzz
    refine ev_iload dX16_perform_12 rfl ?_
    refine ev_aload_n dX16_perform_14 rfl ?_
    refine ev_getf dX16_perform_15 gf_X16_15_X16 ha1 rfl ?_
    refine ev_callVE dX16_perform_18 cv_X16_19_J26 ce_J26_size hpl1 rfl rfl rfl (al_size hpl1) (by omega) (Nat.le_of_ble_eq_true rfl) ?_
    refine ev_icmp_geZ (tgt := 98) dX16_perform_21 (by decide) (by omega) (by omega) (fun c21 => by omega) (fun c21 => ?_)
    refine ev_aload_n dX16_perform_24 rfl ?_
    refine ev_getf dX16_perform_25 gf_X16_15_X16 ha1 rfl ?_
    refine ev_iload dX16_perform_28 rfl ?_
    refine ev_callVE dX16_perform_30 cv_X16_25_J26 ce_J26_get hpl1 rfl rfl rfl (al_get hpl1 hv1 (by omega) (by omega) (by rw [Int.toNat_natCast, hf9 i (by omega), hq])) (by omega) (Nat.le_of_ble_eq_true rfl) ?_
    refine ev_castN dX16_perform_33 q908 (hkc.imp (fun fs e => hI1 _ _ e)) ?_
    refine ev_astore dX16_perform_36 (by decide) rfl ?_
    dsimp only [List.set]
    refine ev_aload dX16_perform_38 rfl ?_
    refine ev_callNE dX16_perform_40 (nv_X16_32 hG) fe_length ((hkc.imp (fun fs e => hI1 _ _ e))) rfl rfl (hlq) (by omega) (Nat.le_of_ble_eq_true rfl) ?_
    refine ev_istore dX16_perform_43 (by decide) rfl ?_
    dsimp only [List.set]
    refine ev_aload dX16_perform_45 rfl ?_
    refine ev_aload_n dX16_perform_47 rfl ?_
    refine ev_iload_n dX16_perform_48 rfl ?_
    refine ev_iload dX16_perform_49 rfl ?_
    refine ev_if_eqB (tgt := 65) dX16_perform_51 (by decide) (fun c51 => ?_) (fun c51 => ?_)
    · refine ev_iload dX16_perform_65 rfl ?_
      refine ev_iaddZ dX16_perform_67 ?_
      refine ev_to (b := ((atF b (foldO (openO nd) ps).2.1.1 fm (mFrom (foldO (openO nd) (ps.take i))) Q.1.1 : Nat) : Int)) (by rw [c51]; unfold atF; simp only [if_true, if_false, Bool.false_eq_true]; omega) ?_
      refine ev_iload_n dX16_perform_68 rfl ?_
      refine ev_iload dX16_perform_69 rfl ?_
      refine ev_callNR dX16_perform_71 (nv_X16_59 hG) fe_perform (hkc.imp (fun fs e => hI1 _ _ e)) rfl rfl (hk _ sc n ss cu ru _ _ (atF b (foldO (openO nd) ps).2.1.1 fm (mFrom (foldO (openO nd) (ps.take i))) Q.1.1) (r) (b) hI1 hS K1 hr hn hf1 hdot1) (by omega) (Nat.zero_le _) (Nat.zero_le _) (Nat.le_of_ble_eq_true rfl) (fun v1 h1 P1 => ?_)
      obtain ⟨rfl, K1, G1⟩ := P1
      have KZ := K1.congr (fun e k he _ => (oS_merge hso hQn.2 hlg hlen1 (fun e k he hb k1 k2 => hdot e he (hub e hb) k k1 k2)) e k he) (fun k _ => (oC_merge hQn.1.1 hlg hlen1) k)
      rw [← foldO_take hpi] at KZ
      have FZ := F1.call G1 (fun x hx => Or.inl hx)
      have hI2 := hS.sub hI FZ
      have ha2 := hI2 _ _ hIa
      refine ev_iload dX16_perform_74 rfl ?_
      refine ev_aload_n dX16_perform_76 rfl ?_
      refine ev_getf dX16_perform_77 gf_X16_9_X16 ha2 rfl ?_
      refine ev_if_eqB (tgt := 87) dX16_perform_80 (by decide) (fun c80 => ?_) (fun c80 => ?_)
      · have h6 : ¬ nd.1 = 6 := by simpa using c80
        refine ev_iload dX16_perform_87 rfl ?_
        refine ev_iaddZ dX16_perform_89 ?_
        refine ev_istore dX16_perform_90 (by decide) rfl ?_
        dsimp only [List.set]
        refine ev_iincZ dX16_perform_92 rfl (by decide) rfl ?_
        dsimp only [List.set]
        refine ev_goto (tgt := 12) dX16_perform_95 (by decide) ?_
        refine hN _ _ ⟨rfl, rfl, rfl, rfl, rfl, vz_eq ?_, rfl, vz_eq (by omega), trivial⟩ ⟨KZ, FZ⟩
        rw [foldO_take hpi, mFrom_next hlg, hkd i]
        first | rw [if_pos h6] | rw [if_neg h6]
        omega
      · have h6 : nd.1 = 6 := by simpa using c80
        refine ev_iconstZ dX16_perform_83 ?_
        refine ev_goto (tgt := 89) dX16_perform_84 (by decide) ?_
        refine ev_iaddZ dX16_perform_89 ?_
        refine ev_istore dX16_perform_90 (by decide) rfl ?_
        dsimp only [List.set]
        refine ev_iincZ dX16_perform_92 rfl (by decide) rfl ?_
        dsimp only [List.set]
        refine ev_goto (tgt := 12) dX16_perform_95 (by decide) ?_
        refine hN _ _ ⟨rfl, rfl, rfl, rfl, rfl, vz_eq ?_, rfl, vz_eq (by omega), trivial⟩ ⟨KZ, FZ⟩
        rw [foldO_take hpi, mFrom_next hlg, hkd i]
        first | rw [if_pos h6] | rw [if_neg h6]
        omega
    · refine ev_iload dX16_perform_54 rfl ?_
      refine ev_iload dX16_perform_56 rfl ?_
      refine ev_isubZ dX16_perform_58 ?_
      refine ev_iload dX16_perform_59 rfl ?_
      refine ev_isubZ dX16_perform_61 ?_
      refine ev_goto (tgt := 67) dX16_perform_62 (by decide) ?_
      refine ev_iaddZ dX16_perform_67 ?_
      refine ev_to (b := ((atF b (foldO (openO nd) ps).2.1.1 fm (mFrom (foldO (openO nd) (ps.take i))) Q.1.1 : Nat) : Int)) (by rw [c51]; unfold atF; simp only [if_true, if_false, Bool.false_eq_true]; omega) ?_
      refine ev_iload_n dX16_perform_68 rfl ?_
      refine ev_iload dX16_perform_69 rfl ?_
      refine ev_callNR dX16_perform_71 (nv_X16_59 hG) fe_perform (hkc.imp (fun fs e => hI1 _ _ e)) rfl rfl (hk _ sc n ss cu ru _ _ (atF b (foldO (openO nd) ps).2.1.1 fm (mFrom (foldO (openO nd) (ps.take i))) Q.1.1) (r) (b) hI1 hS K1 hr hn hf1 hdot1) (by omega) (Nat.zero_le _) (Nat.zero_le _) (Nat.le_of_ble_eq_true rfl) (fun v2 h2 P2 => ?_)
      obtain ⟨rfl, K2, G2⟩ := P2
      have KZ := K2.congr (fun e k he _ => (oS_merge hso hQn.2 hlg hlen1 (fun e k he hb k1 k2 => hdot e he (hub e hb) k k1 k2)) e k he) (fun k _ => (oC_merge hQn.1.1 hlg hlen1) k)
      rw [← foldO_take hpi] at KZ
      have FZ := F1.call G2 (fun x hx => Or.inl hx)
      have hI2 := hS.sub hI FZ
      have ha2 := hI2 _ _ hIa
      refine ev_iload dX16_perform_74 rfl ?_
      refine ev_aload_n dX16_perform_76 rfl ?_
      refine ev_getf dX16_perform_77 gf_X16_9_X16 ha2 rfl ?_
      refine ev_if_eqB (tgt := 87) dX16_perform_80 (by decide) (fun c80 => ?_) (fun c80 => ?_)
      · have h6 : ¬ nd.1 = 6 := by simpa using c80
        refine ev_iload dX16_perform_87 rfl ?_
        refine ev_iaddZ dX16_perform_89 ?_
        refine ev_istore dX16_perform_90 (by decide) rfl ?_
        dsimp only [List.set]
        refine ev_iincZ dX16_perform_92 rfl (by decide) rfl ?_
        dsimp only [List.set]
        refine ev_goto (tgt := 12) dX16_perform_95 (by decide) ?_
        refine hN _ _ ⟨rfl, rfl, rfl, rfl, rfl, vz_eq ?_, rfl, vz_eq (by omega), trivial⟩ ⟨KZ, FZ⟩
        rw [foldO_take hpi, mFrom_next hlg, hkd i]
        first | rw [if_pos h6] | rw [if_neg h6]
        omega
      · have h6 : nd.1 = 6 := by simpa using c80
        refine ev_iconstZ dX16_perform_83 ?_
        refine ev_goto (tgt := 89) dX16_perform_84 (by decide) ?_
        refine ev_iaddZ dX16_perform_89 ?_
        refine ev_istore dX16_perform_90 (by decide) rfl ?_
        dsimp only [List.set]
        refine ev_iincZ dX16_perform_92 rfl (by decide) rfl ?_
        dsimp only [List.set]
        refine ev_goto (tgt := 12) dX16_perform_95 (by decide) ?_
        refine hN _ _ ⟨rfl, rfl, rfl, rfl, rfl, vz_eq ?_, rfl, vz_eq (by omega), trivial⟩ ⟨KZ, FZ⟩
        rw [foldO_take hpi, mFrom_next hlg, hkd i]
        first | rw [if_pos h6] | rw [if_neg h6]
        omega
  · obtain ⟨K1, F1⟩ := hP1
    rw [show as.length = ps.length from hpl9, List.take_length] at K1
    have hI1 := hS.sub hI F1
    have ha1 := hI1 _ _ hIa
    have hpl1 := hI1 _ _ hIpl
    have hv1 := hI1 _ _ hIv
    refine ev_iload dX16_perform_12 rfl ?_
    refine ev_aload_n dX16_perform_14 rfl ?_
    refine ev_getf dX16_perform_15 gf_X16_15_X16 ha1 rfl ?_
    refine ev_callVE dX16_perform_18 cv_X16_19_J26 ce_J26_size hpl1 rfl rfl rfl (al_size hpl1) (by omega) (Nat.le_of_ble_eq_true rfl) ?_
    refine ev_icmp_geZ (tgt := 98) dX16_perform_21 (by decide) (by omega) (by omega) (fun c21 => ?_) (fun c21 => by omega)
    refine ev_return dX16_perform_98 rfl ?_
    exact ⟨_, rfl, rfl, K1, F1⟩
end L5S

/-! THE COMPONENT: the class, getters of a piece (printed by gen) -/
section X2S
variable {g : GB} {M : MI} {d c k : Nat} {h : HM}
variable {N : Nat} {B : Nat → Prop} {o : Nat} {σ : Sp}
theorem sgn_Nn {n : Nat} (h : n ≤ 4) : sgn (n : Int) = ((sgN n : Nat) : Int) := by
  have : ∀ n : Fin 5, sgn (n.val : Int) = ((sgN n.val : Nat) : Int) := by decide
  exact this ⟨n, by omega⟩
theorem ScP.sub {I : HM} {sc ss cu ru : Nat} {P : Pt} (K : ScP g I sc P ss cu ru) (hS : Sub I h) : ScP g h sc P ss cu ru := by
  obtain ⟨A, Bf, ⟨k1, k2, k3, k4, k5, k6, k7⟩, hA, hB⟩ := K
  exact ⟨A, Bf, ⟨hS _ _ k1, hS _ _ k2, fun e he => hS _ _ (k3 e he), hS _ _ k4, hS _ _ k5, k6, k7⟩, hA, hB⟩
theorem toB (x : Int) (h : 0 ≤ x) : ∃ e : Nat, x = (e : Int) := ⟨x.toNat, by omega⟩
theorem lkE_len (D : Dn) (P : Pt) (k q e1 e0 : Nat) : ∀ n, (lkE D P k q e1 e0 n).length ≤ n := by
  intro n
  induction n with
  | zero => exact Nat.le_refl _
  | succ n ih =>
    show (lkE D P k q e1 e0 n ++ _).length ≤ _
    rw [List.length_append]
    split
    · simp; omega
    · simp; omega
def lkM (q : Nat) : Nat → Nat
  | 0 => 0
  | n + 1 => lkM q n + (if isPair q then 7 - n else 1)
theorem lkD_len (D : Dn) (P : Pt) (k q : Nat) : ∀ n, (lkD D P k q n).length ≤ lkM q n := by
  intro n
  induction n with
  | zero => exact Nat.le_refl _
  | succ n ih =>
    show (lkD D P k q n ++ _).length ≤ _
    rw [List.length_append]
    have := lkE_len D P k q n (if isPair q then n + 1 else 0) (if isPair q then 7 - n else 1)
    show _ ≤ lkM q n + _
    omega
theorem srK_72 (D : Dn) (P : Pt) (kd : Nat) : ∀ k, (srK D P kd k).length ≤ 72 * k := by
  intro k
  induction k with
  | zero => exact Nat.le_refl _
  | succ k ih =>
    have h1 := lkD_len D P k 1 8
    have h2 := lkD_len D P k 2 8
    have h3 := lkD_len D P k 3 8
    have h4 := lkD_len D P k 4 8
    have m1 : lkM 1 8 = 8 := by decide
    have m2 : lkM 2 8 = 28 := by decide
    have m3 : lkM 3 8 = 28 := by decide
    have m4 : lkM 4 8 = 8 := by decide
    have key : (srQ D P kd k 4).length ≤ 72 := by
      have e : srQ D P kd k 4 = (((([] ++ (if kd = 0 ∨ kd = 0 + 1 then lkD D P k (0 + 1) 8 else [])) ++ (if kd = 0 ∨ kd = 1 + 1 then lkD D P k (1 + 1) 8 else [])) ++ (if kd = 0 ∨ kd = 2 + 1 then lkD D P k (2 + 1) 8 else [])) ++ (if kd = 0 ∨ kd = 3 + 1 then lkD D P k (3 + 1) 8 else [])) := rfl
      rw [e]
      have f : ∀ (c : Prop) [Decidable c] (l : List Pr), (if c then l else []).length ≤ l.length := fun c _ l => by split <;> simp
      simp only [List.length_append, List.length_nil]
      have a1 := f (kd = 0 ∨ kd = 0 + 1) (lkD D P k (0 + 1) 8)
      have a2 := f (kd = 0 ∨ kd = 1 + 1) (lkD D P k (1 + 1) 8)
      have a3 := f (kd = 0 ∨ kd = 2 + 1) (lkD D P k (2 + 1) 8)
      have a4 := f (kd = 0 ∨ kd = 3 + 1) (lkD D P k (3 + 1) 8)
      simp only [Nat.zero_add, Nat.reduceAdd] at a1 a2 a3 a4 ⊢
      omega
    show (srK D P kd k ++ srQ D P kd k 4).length ≤ _
    rw [List.length_append]
    omega
theorem kP_72 {D : Dn} {P : Pt} (h : P.1.1 ≤ 99) : (srK D P 0 (P.1.1 + 1)).length ≤ 7200 ∧ kP (srK D P 0 (P.1.1 + 1)).length ≤ 90000 := by
  have h1 := srK_72 D P 0 (P.1.1 + 1)
  refine ⟨by omega, ?_⟩
  unfold kP
  have h2 := addK_le (srK D P 0 (P.1.1 + 1)).length
  have h3 := (capL_le (srK D P 0 (P.1.1 + 1)).length).2.1
  omega
set_option maxRecDepth 100000 in
set_option maxHeartbeats 4000000 in
theorem kx_displacement (hG : GKx g) (K0 : KC g h) (W : WX g N B h o σ) (hO : spOk σ) (hL : dnLn σ.1) {x : Int} {row : Bool} (hr1 : inR x) (hd : 500 ≤ d) (hc : 1 ≤ c) (hk : 6 ≤ k) : Kc g mX1_displacement d c k [.ref o, vz x, vz (bI row)] h (XQ g N B h o (fun m : Int => if m = 1 then "java/lang/IndexOutOfBoundsException" else "java/lang/IllegalStateException") (opDisp σ x row)) := by
  refine Kc.of (ls := [some (.ref o), some (vz x), some (vz (bI row))]) (by decide +kernel) (Nat.le_of_ble_eq_true rfl) rfl ?_
  obtain ⟨I, own, ⟨pid, a, st, fo⟩, us, cl, ud, uv, uh, ib, iv, ic, os, ow, sdv, scv, lev, cs, HO, WR⟩ := id W
  have HO : h o = some (.inr (0, [.ref a, .ref cl, .ref ud, sdv, scv, .ref ib, .ref os, lev, vz σ.2.2.2.2.2.1, vz σ.2.2.2.2.1])) := HO
  obtain ⟨⟨hBo, ho1, hIo⟩, ⟨hSI, hCI, hBB⟩, KD, KCs, KU, KN, KS, KI, KOu, KE⟩ := id WR
  have H : DnC g I h a st fo σ.1 := KD.1
  have dO := hO.1
  obtain ⟨A, Bf, pv, sv, KDA, hA, hB9, hV⟩ := id H
  obtain ⟨k1, k2, k3, k4, k5, k6, k7, k8⟩ := id KDA
  unfold opDisp
  by_cases c9 : 0 ≤ x ∧ x ≤ 7
  · rw [if_pos c9]
    cases hp9 : σ.1.2.2.2 with
    | none =>
      rw [withP_none hp9]
      refine ev_iload_n dX1_displacement_0 rfl ?_
      refine ev_callSN dX1_displacement_1 cs_X1_140 ce_X1_checkDancer rfl rfl (k_checkDancerT (d := 0) hr1 c9) (by omega) (Nat.le_of_ble_eq_true rfl) ?_
      refine ev_aload_n dX1_displacement_4 rfl ?_
      refine ev_callV dX1_displacement_5 cv_X1_209_X1 ce_X1_checkPiece HO rfl rfl rfl (k_checkPieceF H HO hBo hG hp9) (by omega) (by omega) (by omega) (Nat.le_of_ble_eq_true rfl) (fun v h2 q => ?_) (fun E q h2 r => ?_)
      · obtain ⟨q9, e9, -⟩ := q; cases e9
      · obtain ⟨q9, e9, e8, e7⟩ := r
        cases e9
        exact evx_out rfl (XQ.no (by decide) rfl ⟨I, own, (pid, a, st, fo), us, cl, ud, uv, uh, ib, iv, ic, os, ow, sdv, scv, lev, cs, e8, WR.self e7⟩ e7 (fun x hx => by rw [List.mem_singleton.mp hx]; exact WR.nB))
    | some l =>
      rw [withP_some hp9]
      rw [hp9] at hV
      obtain ⟨pp, sc, ss, cu, ru, rfl, rfl, hN, SA, SB, ⟨s1, s2, s3, s4, s5, s6, s7⟩, hSA, hSB⟩ := hV
      have pf := pf_dn dO hp9
      replace s1 := hSI _ _ s1
      replace s2 := hSI _ _ s2
      have hcn := (hN.sub hSI).cls
      obtain ⟨e, rfl⟩ := toB x c9.1
      have he : e < 8 := by omega
      refine ev_iload_n dX1_displacement_0 rfl ?_
      refine ev_callSN dX1_displacement_1 cs_X1_140 ce_X1_checkDancer rfl rfl (k_checkDancerT (d := 0) hr1 c9) (by omega) (Nat.le_of_ble_eq_true rfl) ?_
      refine ev_aload_n dX1_displacement_4 rfl ?_
      refine ev_callVN dX1_displacement_5 cv_X1_209_X1 ce_X1_checkPiece HO rfl rfl rfl (k_checkPieceT (d := 0) H HO hBo hp9) (by omega) (Nat.le_of_ble_eq_true rfl) ?_
      refine ev_aload_n dX1_displacement_8 rfl ?_
      refine ev_getf dX1_displacement_9 gf_X1_37_X1 HO rfl ?_
      refine ev_getf dX1_displacement_12 gf_X1_121_X2 k1 rfl ?_
      refine ev_iload_n dX1_displacement_15 rfl ?_
      refine ev_iload_n dX1_displacement_16 rfl ?_
      refine ev_callNE dX1_displacement_17 (nv_X1_326 hG) fe_displacement (hcn) rfl rfl (n_disp hG 81 pp l (hN.sub hSI) (by have := hL l hp9; omega) pf.2.1.2 (mean l) pf.1 e row he) (by omega) (Nat.le_of_ble_eq_true rfl) ?_
      refine ev_ireturn dX1_displacement_20 rfl ?_
      rw [Int.toNat_natCast, ← dsP_eq pf.2.2.2.2.2.2.1 pf.2.2.1 he row]
      exact XQ.ok W (Fr.refl _ []) nil_B
  · rw [if_neg c9]
    refine ev_iload_n dX1_displacement_0 rfl ?_
    refine ev_callS dX1_displacement_1 cs_X1_140 ce_X1_checkDancer rfl rfl (k_checkDancerF hG hr1 c9) (by omega) (by omega) (by omega) (Nat.le_of_ble_eq_true rfl) (fun v h2 q => ?_) (fun E q h2 r => ?_)
    · obtain ⟨q9, e9, -⟩ := q; cases e9
    · obtain ⟨q9, e9, rfl⟩ := r
      cases e9
      exact evx_out rfl (XQ.no (by decide) rfl W (Fr.refl _ []) nil_B)
set_option maxRecDepth 100000 in
set_option maxHeartbeats 4000000 in
theorem kx_step (hG : GKx g) (K0 : KC g h) (W : WX g N B h o σ) (hO : spOk σ) {x j : Int} (hr1 : inR x) (hr2 : inR j) (hd : 10 ≤ d) (hc : 1 ≤ c) (hk : 6 ≤ k) : Kc g mX1_step d c k [.ref o, vz x, vz j] h (XQ g N B h o (fun m : Int => if m = 1 then "java/lang/IndexOutOfBoundsException" else if m = 2 then "java/lang/IllegalStateException" else "java/util/NoSuchElementException") (opStep σ x j)) := by
  refine Kc.of (ls := [some (.ref o), some (vz x), some (vz j)]) (by decide +kernel) (Nat.le_of_ble_eq_true rfl) rfl ?_
  obtain ⟨I, own, ⟨pid, a, st, fo⟩, us, cl, ud, uv, uh, ib, iv, ic, os, ow, sdv, scv, lev, cs, HO, WR⟩ := id W
  have HO : h o = some (.inr (0, [.ref a, .ref cl, .ref ud, sdv, scv, .ref ib, .ref os, lev, vz σ.2.2.2.2.2.1, vz σ.2.2.2.2.1])) := HO
  obtain ⟨⟨hBo, ho1, hIo⟩, ⟨hSI, hCI, hBB⟩, KD, KCs, KU, KN, KS, KI, KOu, KE⟩ := id WR
  have H : DnC g I h a st fo σ.1 := KD.1
  have dO := hO.1
  obtain ⟨A, Bf, pv, sv, KDA, hA, hB9, hV⟩ := id H
  obtain ⟨k1, k2, k3, k4, k5, k6, k7, k8⟩ := id KDA
  unfold opStep
  by_cases c9 : 0 ≤ x ∧ x ≤ 7
  · rw [if_pos c9]
    cases hp9 : σ.1.2.2.2 with
    | none =>
      rw [withP_none hp9]
      refine ev_iload_n dX1_step_0 rfl ?_
      refine ev_callSN dX1_step_1 cs_X1_140 ce_X1_checkDancer rfl rfl (k_checkDancerT (d := 0) hr1 c9) (by omega) (Nat.le_of_ble_eq_true rfl) ?_
      refine ev_aload_n dX1_step_4 rfl ?_
      refine ev_callV dX1_step_5 cv_X1_209_X1 ce_X1_checkPiece HO rfl rfl rfl (k_checkPieceF H HO hBo hG hp9) (by omega) (by omega) (by omega) (Nat.le_of_ble_eq_true rfl) (fun v h2 q => ?_) (fun E q h2 r => ?_)
      · obtain ⟨q9, e9, -⟩ := q; cases e9
      · obtain ⟨q9, e9, e8, e7⟩ := r
        cases e9
        exact evx_out rfl (XQ.no (by decide) rfl ⟨I, own, (pid, a, st, fo), us, cl, ud, uv, uh, ib, iv, ic, os, ow, sdv, scv, lev, cs, e8, WR.self e7⟩ e7 (fun x hx => by rw [List.mem_singleton.mp hx]; exact WR.nB))
    | some l =>
      rw [withP_some hp9]
      rw [hp9] at hV
      obtain ⟨pp, sc, ss, cu, ru, rfl, rfl, hN, SA, SB, ⟨s1, s2, s3, s4, s5, s6, s7⟩, hSA, hSB⟩ := hV
      have pf := pf_dn dO hp9
      replace s1 := hSI _ _ s1
      replace s2 := hSI _ _ s2
      have hcn := (hN.sub hSI).cls
      obtain ⟨e, rfl⟩ := toB x c9.1
      have he : e < 8 := by omega
      have sr := hSI _ _ (s3 e he)
      have h99 := pf.2.2.1
      by_cases c8 : 0 ≤ j ∧ j ≤ (((mean l).1.1 : Nat) : Int) - 1
      · rw [if_pos c8]
        refine ev_iload_n dX1_step_0 rfl ?_
        refine ev_callSN dX1_step_1 cs_X1_140 ce_X1_checkDancer rfl rfl (k_checkDancerT (d := 0) hr1 c9) (by omega) (Nat.le_of_ble_eq_true rfl) ?_
        refine ev_aload_n dX1_step_4 rfl ?_
        refine ev_callVN dX1_step_5 cv_X1_209_X1 ce_X1_checkPiece HO rfl rfl rfl (k_checkPieceT (d := 0) H HO hBo hp9) (by omega) (Nat.le_of_ble_eq_true rfl) ?_
        refine ev_iload_n dX1_step_8 rfl ?_
        refine ev_i2l dX1_step_9 ?_
        refine ev_lconst0 dX1_step_10 ?_
        refine ev_aload_n dX1_step_11 rfl ?_
        refine ev_getf dX1_step_12 gf_X1_37_X1 HO rfl ?_
        refine ev_getf dX1_step_15 gf_X1_280_X2 k1 rfl ?_
        refine ev_getf dX1_step_18 gf_X1_284_X5 s1 rfl ?_
        refine ev_iconstZ dX1_step_21 ?_
        refine ev_isubZ dX1_step_22 ?_
        refine ev_i2l dX1_step_23 ?_
        refine ev_callSE dX1_step_24 cs_X1_108 ce_X1_inRange rfl rfl (k_inRange (d := 0) (a := j) (lo := 0) (hi := (((mean l).1.1 : Nat) : Int) - 1) (by omega)) (by omega) (Nat.le_of_ble_eq_true rfl) ?_
        refine ev_callSN dX1_step_27 cs_X1_203 ce_X1_checkElement rfl rfl (k_checkElementT (d := 0) (decide_eq_true c8)) (by omega) (Nat.le_of_ble_eq_true rfl) ?_
        refine ev_aload_n dX1_step_30 rfl ?_
        refine ev_getf dX1_step_31 gf_X1_37_X1 HO rfl ?_
        refine ev_getf dX1_step_34 gf_X1_280_X2 k1 rfl ?_
        refine ev_getf dX1_step_37 gf_X1_291_X5 s1 rfl ?_
        refine ev_iload_n dX1_step_40 rfl ?_
        refine ev_aaldY (v := .ref (ss + 1 + e)) dX1_step_41 s2 rfl rfl (by omega) (by rw [Int.toNat_natCast, if_pos he]; rfl) ?_
        refine ev_iload_n dX1_step_42 rfl ?_
        refine ev_caldY dX1_step_43 sr (by omega) ?_
        rw [hSA e j.toNat he (by omega)]
        refine ev_to (b := ((sgN ((mean l).2.1 e j.toNat) : Nat) : Int)) rfl ?_
        refine ev_zreturn dX1_step_44 rfl (congrArg Value.int (vp_nar_c ⟨by omega, by have := sgN_128 ((mean l).2.1 e j.toNat); omega⟩)) ?_
        rw [Int.toNat_natCast, sgn_Nn (pf.2.2.2.2.2.2.2 e j.toNat)]
        exact XQ.ok W (Fr.refl _ []) nil_B
      · rw [if_neg c8]
        refine ev_iload_n dX1_step_0 rfl ?_
        refine ev_callSN dX1_step_1 cs_X1_140 ce_X1_checkDancer rfl rfl (k_checkDancerT (d := 0) hr1 c9) (by omega) (Nat.le_of_ble_eq_true rfl) ?_
        refine ev_aload_n dX1_step_4 rfl ?_
        refine ev_callVN dX1_step_5 cv_X1_209_X1 ce_X1_checkPiece HO rfl rfl rfl (k_checkPieceT (d := 0) H HO hBo hp9) (by omega) (Nat.le_of_ble_eq_true rfl) ?_
        refine ev_iload_n dX1_step_8 rfl ?_
        refine ev_i2l dX1_step_9 ?_
        refine ev_lconst0 dX1_step_10 ?_
        refine ev_aload_n dX1_step_11 rfl ?_
        refine ev_getf dX1_step_12 gf_X1_37_X1 HO rfl ?_
        refine ev_getf dX1_step_15 gf_X1_280_X2 k1 rfl ?_
        refine ev_getf dX1_step_18 gf_X1_284_X5 s1 rfl ?_
        refine ev_iconstZ dX1_step_21 ?_
        refine ev_isubZ dX1_step_22 ?_
        refine ev_i2l dX1_step_23 ?_
        refine ev_callSE dX1_step_24 cs_X1_108 ce_X1_inRange rfl rfl (k_inRange (d := 0) (a := j) (lo := 0) (hi := (((mean l).1.1 : Nat) : Int) - 1) (by omega)) (by omega) (Nat.le_of_ble_eq_true rfl) ?_
        refine ev_callS dX1_step_27 cs_X1_203 ce_X1_checkElement rfl rfl (k_checkElementF hG (decide_eq_false c8)) (by omega) (by omega) (by omega) (Nat.le_of_ble_eq_true rfl) (fun v h2 q => ?_) (fun E q h2 r => ?_)
        · obtain ⟨q9, e9, -⟩ := q; cases e9
        · obtain ⟨q9, e9, rfl⟩ := r
          cases e9
          exact evx_out rfl (XQ.no (by decide) rfl W (Fr.refl _ []) nil_B)
  · rw [if_neg c9]
    refine ev_iload_n dX1_step_0 rfl ?_
    refine ev_callS dX1_step_1 cs_X1_140 ce_X1_checkDancer rfl rfl (k_checkDancerF hG hr1 c9) (by omega) (by omega) (by omega) (Nat.le_of_ble_eq_true rfl) (fun v h2 q => ?_) (fun E q h2 r => ?_)
    · obtain ⟨q9, e9, -⟩ := q; cases e9
    · obtain ⟨q9, e9, rfl⟩ := r
      cases e9
      exact evx_out rfl (XQ.no (by decide) rfl W (Fr.refl _ []) nil_B)
set_option maxRecDepth 100000 in
set_option maxHeartbeats 4000000 in
theorem kx_position (hG : GKx g) (K0 : KC g h) (W : WX g N B h o σ) (hO : spOk σ) {x j : Int} {row : Bool} (hr1 : inR x) (hr2 : inR j) (hd : 10 ≤ d) (hc : 1 ≤ c) (hk : 6 ≤ k) : Kc g mX1_position d c k [.ref o, vz x, vz j, vz (bI row)] h (XQ g N B h o (fun m : Int => if m = 1 then "java/lang/IndexOutOfBoundsException" else if m = 2 then "java/lang/IllegalStateException" else "java/util/NoSuchElementException") (opPos σ x j row)) := by
  refine Kc.of (ls := [some (.ref o), some (vz x), some (vz j), some (vz (bI row))]) (by decide +kernel) (Nat.le_of_ble_eq_true rfl) rfl ?_
  obtain ⟨I, own, ⟨pid, a, st, fo⟩, us, cl, ud, uv, uh, ib, iv, ic, os, ow, sdv, scv, lev, cs, HO, WR⟩ := id W
  have HO : h o = some (.inr (0, [.ref a, .ref cl, .ref ud, sdv, scv, .ref ib, .ref os, lev, vz σ.2.2.2.2.2.1, vz σ.2.2.2.2.1])) := HO
  obtain ⟨⟨hBo, ho1, hIo⟩, ⟨hSI, hCI, hBB⟩, KD, KCs, KU, KN, KS, KI, KOu, KE⟩ := id WR
  have H : DnC g I h a st fo σ.1 := KD.1
  have dO := hO.1
  obtain ⟨A, Bf, pv, sv, KDA, hA, hB9, hV⟩ := id H
  obtain ⟨k1, k2, k3, k4, k5, k6, k7, k8⟩ := id KDA
  unfold opPos
  by_cases c9 : 0 ≤ x ∧ x ≤ 7
  · rw [if_pos c9]
    cases hp9 : σ.1.2.2.2 with
    | none =>
      rw [withP_none hp9]
      refine ev_iload_n dX1_position_0 rfl ?_
      refine ev_callSN dX1_position_1 cs_X1_140 ce_X1_checkDancer rfl rfl (k_checkDancerT (d := 0) hr1 c9) (by omega) (Nat.le_of_ble_eq_true rfl) ?_
      refine ev_aload_n dX1_position_4 rfl ?_
      refine ev_callV dX1_position_5 cv_X1_209_X1 ce_X1_checkPiece HO rfl rfl rfl (k_checkPieceF H HO hBo hG hp9) (by omega) (by omega) (by omega) (Nat.le_of_ble_eq_true rfl) (fun v h2 q => ?_) (fun E q h2 r => ?_)
      · obtain ⟨q9, e9, -⟩ := q; cases e9
      · obtain ⟨q9, e9, e8, e7⟩ := r
        cases e9
        exact evx_out rfl (XQ.no (by decide) rfl ⟨I, own, (pid, a, st, fo), us, cl, ud, uv, uh, ib, iv, ic, os, ow, sdv, scv, lev, cs, e8, WR.self e7⟩ e7 (fun x hx => by rw [List.mem_singleton.mp hx]; exact WR.nB))
    | some l =>
      rw [withP_some hp9]
      rw [hp9] at hV
      obtain ⟨pp, sc, ss, cu, ru, rfl, rfl, hN, SA, SB, ⟨s1, s2, s3, s4, s5, s6, s7⟩, hSA, hSB⟩ := hV
      have pf := pf_dn dO hp9
      replace s1 := hSI _ _ s1
      replace s2 := hSI _ _ s2
      have hcn := (hN.sub hSI).cls
      obtain ⟨e, rfl⟩ := toB x c9.1
      have he : e < 8 := by omega
      have h99 := pf.2.2.1
      by_cases c7 : 0 ≤ j ∧ j ≤ (((mean l).1.1 : Nat) : Int)
      · cases ht : tkB σ.1 e with
        | false =>
          have ht2 : σ.1.2.1 e = -1 := by unfold tkB at ht; exact Decidable.byContradiction (fun q => of_decide_eq_false ht q)
          rw [Int.toNat_natCast, if_neg (fun q => q.2 ht2)]
          refine ev_iload_n dX1_position_0 rfl ?_
          refine ev_callSN dX1_position_1 cs_X1_140 ce_X1_checkDancer rfl rfl (k_checkDancerT (d := 0) hr1 c9) (by omega) (Nat.le_of_ble_eq_true rfl) ?_
          refine ev_aload_n dX1_position_4 rfl ?_
          refine ev_callVN dX1_position_5 cv_X1_209_X1 ce_X1_checkPiece HO rfl rfl rfl (k_checkPieceT (d := 0) H HO hBo hp9) (by omega) (Nat.le_of_ble_eq_true rfl) ?_
          refine ev_iload_n dX1_position_8 rfl ?_
          refine ev_i2l dX1_position_9 ?_
          refine ev_lconst0 dX1_position_10 ?_
          refine ev_aload_n dX1_position_11 rfl ?_
          refine ev_getf dX1_position_12 gf_X1_37_X1 HO rfl ?_
          refine ev_getf dX1_position_15 gf_X1_280_X2 k1 rfl ?_
          refine ev_getf dX1_position_18 gf_X1_284_X5 s1 rfl ?_
          refine ev_i2l dX1_position_21 ?_
          refine ev_callSE dX1_position_22 cs_X1_108 ce_X1_inRange rfl rfl (k_inRange (d := 0) (a := j) (lo := 0) (hi := (((mean l).1.1 : Nat) : Int)) (by omega)) (by omega) (Nat.le_of_ble_eq_true rfl) ?_
          refine ev_if_eqB (tgt := 43) dX1_position_25 (by decide) (fun c25 => by rw [decide_eq_true c7] at c25; cases c25) (fun c25 => ?_)
          refine ev_aload_n dX1_position_28 rfl ?_
          refine ev_getf dX1_position_29 gf_X1_37_X1 HO rfl ?_
          refine ev_iload_n dX1_position_32 rfl ?_
          refine ev_callVE dX1_position_33 cv_X1_295_X2 ce_X2_takesPart k1 rfl rfl rfl (k_takesX2 (d := 0) H he (st_in dO he)) (by omega) (Nat.le_of_ble_eq_true rfl) ?_
          refine ev_if_eqB (tgt := 43) dX1_position_36 (by decide) (fun c36 => ?_) (fun c36 => by rw [ht] at c36; cases c36)
          refine ev_iconstZ dX1_position_43 ?_
          refine ev_callS dX1_position_44 cs_X1_203 ce_X1_checkElement rfl rfl (k_checkElementF (b := false) hG rfl) (by omega) (by omega) (by omega) (Nat.le_of_ble_eq_true rfl) (fun v h2 q => ?_) (fun E q h2 r => ?_)
          · obtain ⟨q9, e9, -⟩ := q; cases e9
          · obtain ⟨q9, e9, rfl⟩ := r
            cases e9
            exact evx_out rfl (XQ.no (by decide) rfl W (Fr.refl _ []) nil_B)
        | true =>
          have ht2 : σ.1.2.1 e ≠ -1 := by unfold tkB at ht; exact of_decide_eq_true ht
          have hst : 0 ≤ σ.1.2.1 e ∧ σ.1.2.1 e < 100 := by have := st_lt dO he; omega
          rw [if_pos ⟨c7, by rw [Int.toNat_natCast]; exact ht2⟩]
          refine ev_iload_n dX1_position_0 rfl ?_
          refine ev_callSN dX1_position_1 cs_X1_140 ce_X1_checkDancer rfl rfl (k_checkDancerT (d := 0) hr1 c9) (by omega) (Nat.le_of_ble_eq_true rfl) ?_
          refine ev_aload_n dX1_position_4 rfl ?_
          refine ev_callVN dX1_position_5 cv_X1_209_X1 ce_X1_checkPiece HO rfl rfl rfl (k_checkPieceT (d := 0) H HO hBo hp9) (by omega) (Nat.le_of_ble_eq_true rfl) ?_
          refine ev_iload_n dX1_position_8 rfl ?_
          refine ev_i2l dX1_position_9 ?_
          refine ev_lconst0 dX1_position_10 ?_
          refine ev_aload_n dX1_position_11 rfl ?_
          refine ev_getf dX1_position_12 gf_X1_37_X1 HO rfl ?_
          refine ev_getf dX1_position_15 gf_X1_280_X2 k1 rfl ?_
          refine ev_getf dX1_position_18 gf_X1_284_X5 s1 rfl ?_
          refine ev_i2l dX1_position_21 ?_
          refine ev_callSE dX1_position_22 cs_X1_108 ce_X1_inRange rfl rfl (k_inRange (d := 0) (a := j) (lo := 0) (hi := (((mean l).1.1 : Nat) : Int)) (by omega)) (by omega) (Nat.le_of_ble_eq_true rfl) ?_
          refine ev_if_eqB (tgt := 43) dX1_position_25 (by decide) (fun c25 => by rw [decide_eq_true c7] at c25; cases c25) (fun c25 => ?_)
          refine ev_aload_n dX1_position_28 rfl ?_
          refine ev_getf dX1_position_29 gf_X1_37_X1 HO rfl ?_
          refine ev_iload_n dX1_position_32 rfl ?_
          refine ev_callVE dX1_position_33 cv_X1_295_X2 ce_X2_takesPart k1 rfl rfl rfl (k_takesX2 (d := 0) H he (st_in dO he)) (by omega) (Nat.le_of_ble_eq_true rfl) ?_
          refine ev_if_eqB (tgt := 43) dX1_position_36 (by decide) (fun c36 => by rw [ht] at c36; cases c36) (fun c36 => ?_)
          refine ev_iconstZ dX1_position_39 ?_
          refine ev_goto (tgt := 44) dX1_position_40 (by decide) ?_
          refine ev_callSN dX1_position_44 cs_X1_203 ce_X1_checkElement rfl rfl (k_checkElementT (d := 0) (b := true) rfl) (by omega) (Nat.le_of_ble_eq_true rfl) ?_
          refine ev_aload_n dX1_position_47 rfl ?_
          refine ev_getf dX1_position_48 gf_X1_37_X1 HO rfl ?_
          refine ev_iload_n dX1_position_51 rfl ?_
          refine ev_iload_n dX1_position_52 rfl ?_
          refine ev_to (b := ((j.toNat : Nat) : Int)) (by omega) ?_
          refine ev_iload_n dX1_position_53 rfl ?_
          refine ev_callVE dX1_position_54 cv_X1_299_X2 ce_X2_position k1 rfl rfl rfl (k_positionX2 (n := j.toNat) hSI H hp9 rfl he hst ⟨dO.1, dO.2.1⟩ ⟨by omega, pf.2.2.1⟩ pf.2.2.2.2.2.2.2) (by omega) (Nat.le_of_ble_eq_true rfl) ?_
          refine ev_ireturn dX1_position_57 rfl ?_
          rw [Int.toNat_natCast]
          exact XQ.ok W (Fr.refl _ []) nil_B
      · rw [if_neg (fun q => c7 q.1)]
        refine ev_iload_n dX1_position_0 rfl ?_
        refine ev_callSN dX1_position_1 cs_X1_140 ce_X1_checkDancer rfl rfl (k_checkDancerT (d := 0) hr1 c9) (by omega) (Nat.le_of_ble_eq_true rfl) ?_
        refine ev_aload_n dX1_position_4 rfl ?_
        refine ev_callVN dX1_position_5 cv_X1_209_X1 ce_X1_checkPiece HO rfl rfl rfl (k_checkPieceT (d := 0) H HO hBo hp9) (by omega) (Nat.le_of_ble_eq_true rfl) ?_
        refine ev_iload_n dX1_position_8 rfl ?_
        refine ev_i2l dX1_position_9 ?_
        refine ev_lconst0 dX1_position_10 ?_
        refine ev_aload_n dX1_position_11 rfl ?_
        refine ev_getf dX1_position_12 gf_X1_37_X1 HO rfl ?_
        refine ev_getf dX1_position_15 gf_X1_280_X2 k1 rfl ?_
        refine ev_getf dX1_position_18 gf_X1_284_X5 s1 rfl ?_
        refine ev_i2l dX1_position_21 ?_
        refine ev_callSE dX1_position_22 cs_X1_108 ce_X1_inRange rfl rfl (k_inRange (d := 0) (a := j) (lo := 0) (hi := (((mean l).1.1 : Nat) : Int)) (by omega)) (by omega) (Nat.le_of_ble_eq_true rfl) ?_
        refine ev_if_eqB (tgt := 43) dX1_position_25 (by decide) (fun c25 => ?_) (fun c25 => by rw [decide_eq_false c7] at c25; cases c25)
        refine ev_iconstZ dX1_position_43 ?_
        refine ev_callS dX1_position_44 cs_X1_203 ce_X1_checkElement rfl rfl (k_checkElementF (b := false) hG rfl) (by omega) (by omega) (by omega) (Nat.le_of_ble_eq_true rfl) (fun v h2 q => ?_) (fun E q h2 r => ?_)
        · obtain ⟨q9, e9, -⟩ := q; cases e9
        · obtain ⟨q9, e9, rfl⟩ := r
          cases e9
          exact evx_out rfl (XQ.no (by decide) rfl W (Fr.refl _ []) nil_B)
  · rw [if_neg c9]
    refine ev_iload_n dX1_position_0 rfl ?_
    refine ev_callS dX1_position_1 cs_X1_140 ce_X1_checkDancer rfl rfl (k_checkDancerF hG hr1 c9) (by omega) (by omega) (by omega) (Nat.le_of_ble_eq_true rfl) (fun v h2 q => ?_) (fun E q h2 r => ?_)
    · obtain ⟨q9, e9, -⟩ := q; cases e9
    · obtain ⟨q9, e9, rfl⟩ := r
      cases e9
      exact evx_out rfl (XQ.no (by decide) rfl W (Fr.refl _ []) nil_B)
set_option maxRecDepth 100000 in
set_option maxHeartbeats 4000000 in
theorem kx_cue (hG : GKx g) (K0 : KC g h) (W : WX g N B h o σ) (hO : spOk σ) {j : Int} (hr2 : inR j) (hd : 10 ≤ d) (hc : 1 ≤ c) (hk : 6 ≤ k) : Kc g mX1_cue d c k [.ref o, vz j] h (XQ g N B h o (fun m : Int => if m = 1 then "java/lang/IllegalStateException" else "java/util/NoSuchElementException") (opCue σ j)) := by
  refine Kc.of (ls := [some (.ref o), some (vz j), none]) (by decide +kernel) (Nat.le_of_ble_eq_true rfl) rfl ?_
  obtain ⟨I, own, ⟨pid, a, st, fo⟩, us, cl, ud, uv, uh, ib, iv, ic, os, ow, sdv, scv, lev, cs, HO, WR⟩ := id W
  have HO : h o = some (.inr (0, [.ref a, .ref cl, .ref ud, sdv, scv, .ref ib, .ref os, lev, vz σ.2.2.2.2.2.1, vz σ.2.2.2.2.1])) := HO
  obtain ⟨⟨hBo, ho1, hIo⟩, ⟨hSI, hCI, hBB⟩, KD, KCs, KU, KN, KS, KI, KOu, KE⟩ := id WR
  have H : DnC g I h a st fo σ.1 := KD.1
  have dO := hO.1
  obtain ⟨A, Bf, pv, sv, KDA, hA, hB9, hV⟩ := id H
  obtain ⟨k1, k2, k3, k4, k5, k6, k7, k8⟩ := id KDA
  unfold opCue
  cases hp9 : σ.1.2.2.2 with
  | none =>
    rw [withP_none hp9]
    refine ev_aload_n dX1_cue_0 rfl ?_
    refine ev_callV dX1_cue_1 cv_X1_209_X1 ce_X1_checkPiece HO rfl rfl rfl (k_checkPieceF H HO hBo hG hp9) (by omega) (by omega) (by omega) (Nat.le_of_ble_eq_true rfl) (fun v h2 q => ?_) (fun E q h2 r => ?_)
    · obtain ⟨q9, e9, -⟩ := q; cases e9
    · obtain ⟨q9, e9, e8, e7⟩ := r
      cases e9
      exact evx_out rfl (XQ.no (by decide) rfl ⟨I, own, (pid, a, st, fo), us, cl, ud, uv, uh, ib, iv, ic, os, ow, sdv, scv, lev, cs, e8, WR.self e7⟩ e7 (fun x hx => by rw [List.mem_singleton.mp hx]; exact WR.nB))
  | some l =>
    rw [withP_some hp9]
    rw [hp9] at hV
    obtain ⟨pp, sc, ss, cu, ru, rfl, rfl, hN, hSCI⟩ := hV
    have hSC := ScP.sub hSCI hSI
    obtain ⟨SA, SB, ⟨s1, s2, s3, s4, s5, s6, s7⟩, hSA, hSB⟩ := id hSCI
    have pf := pf_dn dO hp9
    replace s1 := hSI _ _ s1
    replace s2 := hSI _ _ s2
    have hcn := (hN.sub hSI).cls
    have h99 := pf.2.2.2.2.2.1
    skip
    by_cases c7 : j = -1
    · have c8 : -1 ≤ j ∧ j ≤ (((mean l).1.2.2.2 : Nat) : Int) - 1 := by omega
      rw [if_pos c7]
      refine ev_aload_n dX1_cue_0 rfl ?_
      refine ev_callVN dX1_cue_1 cv_X1_209_X1 ce_X1_checkPiece HO rfl rfl rfl (k_checkPieceT (d := 0) H HO hBo hp9) (by omega) (Nat.le_of_ble_eq_true rfl) ?_
      refine ev_aload_n dX1_cue_4 rfl ?_
      refine ev_getf dX1_cue_5 gf_X1_37_X1 HO rfl ?_
      refine ev_getf dX1_cue_8 gf_X1_280_X2 k1 rfl ?_
      refine ev_callVE dX1_cue_11 cv_X1_319_X5 ce_X5_cueCount s1 rfl rfl rfl (k_cueCount (d := 0) hSC pf.2.2.1 pf.2.2.2.2.2.2.1.1) (by omega) (Nat.le_of_ble_eq_true rfl) ?_
      refine ev_istore_n dX1_cue_14 (by decide) rfl ?_
      dsimp only [List.set]
      refine ev_iload_n dX1_cue_15 rfl ?_
      refine ev_i2l dX1_cue_16 ?_
      refine ev_ldc2V (x := (-1)) dX1_cue_17 q1471 (by decide) ?_
      refine ev_iload_n dX1_cue_20 rfl ?_
      refine ev_iconstZ dX1_cue_21 ?_
      refine ev_isubZ dX1_cue_22 ?_
      refine ev_i2l dX1_cue_23 ?_
      refine ev_callSE dX1_cue_24 cs_X1_108 ce_X1_inRange rfl rfl (k_inRange (d := 0) (a := j) (lo := -1) (hi := (((mean l).1.2.2.2 : Nat) : Int) - 1) (by omega)) (by omega) (Nat.le_of_ble_eq_true rfl) ?_
      refine ev_callSN dX1_cue_27 cs_X1_203 ce_X1_checkElement rfl rfl (k_checkElementT (d := 0) (decide_eq_true c8)) (by omega) (Nat.le_of_ble_eq_true rfl) ?_
      refine ev_iload_n dX1_cue_30 rfl ?_
      refine ev_iconstZ dX1_cue_31 ?_
      refine ev_icmp_neZ (tgt := 39) dX1_cue_32 (by decide) (by omega) (by omega) (fun c32 => by omega) (fun c32 => ?_)
      refine ev_iload_n dX1_cue_35 rfl ?_
      refine ev_goto (tgt := 50) dX1_cue_36 (by decide) ?_
      refine ev_ireturn dX1_cue_50 rfl ?_
      exact XQ.ok W (Fr.refl _ []) nil_B
    · rw [if_neg c7]
      by_cases c6 : 0 ≤ j ∧ j ≤ (((mean l).1.2.2.2 : Nat) : Int) - 1
      · have c8 : -1 ≤ j ∧ j ≤ (((mean l).1.2.2.2 : Nat) : Int) - 1 := by omega
        rw [if_pos c6]
        refine ev_aload_n dX1_cue_0 rfl ?_
        refine ev_callVN dX1_cue_1 cv_X1_209_X1 ce_X1_checkPiece HO rfl rfl rfl (k_checkPieceT (d := 0) H HO hBo hp9) (by omega) (Nat.le_of_ble_eq_true rfl) ?_
        refine ev_aload_n dX1_cue_4 rfl ?_
        refine ev_getf dX1_cue_5 gf_X1_37_X1 HO rfl ?_
        refine ev_getf dX1_cue_8 gf_X1_280_X2 k1 rfl ?_
        refine ev_callVE dX1_cue_11 cv_X1_319_X5 ce_X5_cueCount s1 rfl rfl rfl (k_cueCount (d := 0) hSC pf.2.2.1 pf.2.2.2.2.2.2.1.1) (by omega) (Nat.le_of_ble_eq_true rfl) ?_
        refine ev_istore_n dX1_cue_14 (by decide) rfl ?_
        dsimp only [List.set]
        refine ev_iload_n dX1_cue_15 rfl ?_
        refine ev_i2l dX1_cue_16 ?_
        refine ev_ldc2V (x := (-1)) dX1_cue_17 q1471 (by decide) ?_
        refine ev_iload_n dX1_cue_20 rfl ?_
        refine ev_iconstZ dX1_cue_21 ?_
        refine ev_isubZ dX1_cue_22 ?_
        refine ev_i2l dX1_cue_23 ?_
        refine ev_callSE dX1_cue_24 cs_X1_108 ce_X1_inRange rfl rfl (k_inRange (d := 0) (a := j) (lo := -1) (hi := (((mean l).1.2.2.2 : Nat) : Int) - 1) (by omega)) (by omega) (Nat.le_of_ble_eq_true rfl) ?_
        refine ev_callSN dX1_cue_27 cs_X1_203 ce_X1_checkElement rfl rfl (k_checkElementT (d := 0) (decide_eq_true c8)) (by omega) (Nat.le_of_ble_eq_true rfl) ?_
        refine ev_iload_n dX1_cue_30 rfl ?_
        refine ev_iconstZ dX1_cue_31 ?_
        refine ev_icmp_neZ (tgt := 39) dX1_cue_32 (by decide) (by omega) (by omega) (fun c32 => ?_) (fun c32 => by omega)
        refine ev_aload_n dX1_cue_39 rfl ?_
        refine ev_getf dX1_cue_40 gf_X1_37_X1 HO rfl ?_
        refine ev_getf dX1_cue_43 gf_X1_280_X2 k1 rfl ?_
        refine ev_iload_n dX1_cue_46 rfl ?_
        refine ev_to (b := ((j.toNat : Nat) : Int)) (by omega) ?_
        refine ev_callVE dX1_cue_47 cv_X1_322_X5 ce_X5_cue s1 rfl rfl rfl (k_cueX5 (d := 0) (i := j.toNat) hSC pf.2.2.1 pf.2.2.2.2.2.2.1.1 (by omega) pf.2.2.2.2.2.1) (by omega) (Nat.le_of_ble_eq_true rfl) ?_
        refine ev_ireturn dX1_cue_50 rfl ?_
        exact XQ.ok W (Fr.refl _ []) nil_B
      · have c8 : ¬ (-1 ≤ j ∧ j ≤ (((mean l).1.2.2.2 : Nat) : Int) - 1) := by omega
        rw [if_neg c6]
        refine ev_aload_n dX1_cue_0 rfl ?_
        refine ev_callVN dX1_cue_1 cv_X1_209_X1 ce_X1_checkPiece HO rfl rfl rfl (k_checkPieceT (d := 0) H HO hBo hp9) (by omega) (Nat.le_of_ble_eq_true rfl) ?_
        refine ev_aload_n dX1_cue_4 rfl ?_
        refine ev_getf dX1_cue_5 gf_X1_37_X1 HO rfl ?_
        refine ev_getf dX1_cue_8 gf_X1_280_X2 k1 rfl ?_
        refine ev_callVE dX1_cue_11 cv_X1_319_X5 ce_X5_cueCount s1 rfl rfl rfl (k_cueCount (d := 0) hSC pf.2.2.1 pf.2.2.2.2.2.2.1.1) (by omega) (Nat.le_of_ble_eq_true rfl) ?_
        refine ev_istore_n dX1_cue_14 (by decide) rfl ?_
        dsimp only [List.set]
        refine ev_iload_n dX1_cue_15 rfl ?_
        refine ev_i2l dX1_cue_16 ?_
        refine ev_ldc2V (x := (-1)) dX1_cue_17 q1471 (by decide) ?_
        refine ev_iload_n dX1_cue_20 rfl ?_
        refine ev_iconstZ dX1_cue_21 ?_
        refine ev_isubZ dX1_cue_22 ?_
        refine ev_i2l dX1_cue_23 ?_
        refine ev_callSE dX1_cue_24 cs_X1_108 ce_X1_inRange rfl rfl (k_inRange (d := 0) (a := j) (lo := -1) (hi := (((mean l).1.2.2.2 : Nat) : Int) - 1) (by omega)) (by omega) (Nat.le_of_ble_eq_true rfl) ?_
        refine ev_callS dX1_cue_27 cs_X1_203 ce_X1_checkElement rfl rfl (k_checkElementF hG (decide_eq_false c8)) (by omega) (by omega) (by omega) (Nat.le_of_ble_eq_true rfl) (fun v h2 q => ?_) (fun E q h2 r => ?_)
        · obtain ⟨q9, e9, -⟩ := q; cases e9
        · obtain ⟨q9, e9, rfl⟩ := r
          cases e9
          exact evx_out rfl (XQ.no (by decide) rfl W (Fr.refl _ []) nil_B)
end X2S

/-! THE COMPONENT: the class, distance, means (printed by gen) -/
section X4S
variable {g : GB} {M : MI} {d c k : Nat} {h : HM}
variable {N : Nat} {B : Nat → Prop} {o : Nat} {σ : Sp}
theorem abs_amt (a b : Int) : ((a - b).natAbs : Int) = amt (b - a) := by unfold amt; split <;> omega
theorem mvN_0 {P : Pt} (h : nrP P) {e : Nat} (he : e < 8) (ht : P.1.2.1.testBit e = false) : ∀ k, mvN P e k = 0 := by
  intro k
  induction k with
  | zero => rfl
  | succ k ih =>
    show mvN P e k + (if P.2.1 e k = 0 then 0 else 1) = 0
    rw [ih, h.2 e k he (Or.inr ht), if_pos rfl]
theorem sumU_s {P : Pt} (h : nrP P) {e : Nat} (he : e < 8) : sumU P (e + 1) = sumU P e + mvN P e P.1.1 := by
  show sumU P e + (if P.1.2.1.testBit e then mvN P e P.1.1 else 0) = _
  cases q : P.1.2.1.testBit e with
  | true => rw [if_pos rfl]
  | false => rw [if_neg (by decide), mvN_0 h he q]
theorem bitsU_0 : ∀ u : Fin 256, bitsU u.val 8 = 0 ↔ u.val = 0 := by decide +kernel
/-- .. with a number of doubles or floats -/
def XQd (g : GB) (N : Nat) (B : Nat → Prop) (h : HM) (o : Nat) (C : Int → String) (f : Nat → Nat → Value) (r : Rd) : RS → HM → Prop := fun res h' => WX g N B h' o r.2.2 ∧ (∃ S : List Nat, Fr g h h' S ∧ ∀ x ∈ S, ¬ B x) ∧ (if r.1 = 0 then res = .inl (some (f r.2.1.1 r.2.1.2)) else ∃ q : Nat, res = .inr (C r.1, q))
theorem XQd.no {h' : HM} {C : Int → String} {f : Nat → Nat → Value} {m : Int} {x : Nat × Nat} {σ' : Sp} {S : List Nat} {q : Nat} {E : String} (hm : m ≠ 0) (hE : C m = E) (W : WX g N B h' o σ') (F : Fr g h h' S) (hS : ∀ x ∈ S, ¬ B x) : XQd g N B h o C f (m, x, σ') (.inr (E, q)) h' := ⟨W, ⟨S, F, hS⟩, by rw [if_neg hm]; exact ⟨q, by rw [hE]⟩⟩
theorem XQd.ok {h' : HM} {C : Int → String} {f : Nat → Nat → Value} {x : Nat × Nat} {σ' : Sp} {S : List Nat} (W : WX g N B h' o σ') (F : Fr g h h' S) (hS : ∀ x ∈ S, ¬ B x) : XQd g N B h o C f (0, x, σ') (.inl (some (f x.1 x.2))) h' := ⟨W, ⟨S, F, hS⟩, rfl⟩
set_option maxRecDepth 100000 in
set_option maxHeartbeats 4000000 in
theorem kx_distance (hG : GKx g) (K0 : KC g h) (W : WX g N B h o σ) (hO : spOk σ) {x j : Int} (hr1 : inR x) (hr2 : inR j) (hd : 10 ≤ d) (hc : 1 ≤ c) (hk : 6 ≤ k) : Kc g mX1_distance d c k [.ref o, vz x, vz j] h (XQ g N B h o (fun m : Int => if m = 1 then "java/lang/IndexOutOfBoundsException" else if m = 2 then "java/lang/IllegalStateException" else "java/util/NoSuchElementException") (opDist σ x j)) := by
  refine Kc.of (ls := [some (.ref o), some (vz x), some (vz j), none, none, none]) (by decide +kernel) (Nat.le_of_ble_eq_true rfl) rfl ?_
  obtain ⟨I, own, ⟨pid, a, st, fo⟩, us, cl, ud, uv, uh, ib, iv, ic, os, ow, sdv, scv, lev, cs, HO, WR⟩ := id W
  have HO : h o = some (.inr (0, [.ref a, .ref cl, .ref ud, sdv, scv, .ref ib, .ref os, lev, vz σ.2.2.2.2.2.1, vz σ.2.2.2.2.1])) := HO
  obtain ⟨⟨hBo, ho1, hIo⟩, ⟨hSI, hCI, hBB⟩, KD, KCs, KU, KN, KS, KI, KOu, KE⟩ := id WR
  have H : DnC g I h a st fo σ.1 := KD.1
  have dO := hO.1
  obtain ⟨A, Bf, pv, sv, KDA, hA, hB9, hV⟩ := id H
  obtain ⟨k1, k2, k3, k4, k5, k6, k7, k8⟩ := id KDA
  unfold opDist
  by_cases c9 : 0 ≤ x ∧ x ≤ 3
  · rw [if_pos c9]
    cases hp9 : σ.1.2.2.2 with
    | none =>
      rw [withP_none hp9]
      refine ev_iload_n dX1_distance_0 rfl ?_
      refine ev_callSN dX1_distance_1 cs_X1_341 ce_X1_checkFormation rfl rfl (k_checkFormationT (d := 0) hr1 c9) (by omega) (Nat.le_of_ble_eq_true rfl) ?_
      refine ev_aload_n dX1_distance_4 rfl ?_
      refine ev_callV dX1_distance_5 cv_X1_209_X1 ce_X1_checkPiece HO rfl rfl rfl (k_checkPieceF H HO hBo hG hp9) (by omega) (by omega) (by omega) (Nat.le_of_ble_eq_true rfl) (fun v h2 q => ?_) (fun E q h2 r => ?_)
      · obtain ⟨q9, e9, -⟩ := q; cases e9
      · obtain ⟨q9, e9, e8, e7⟩ := r
        cases e9
        exact evx_out rfl (XQ.no (by decide) rfl ⟨I, own, (pid, a, st, fo), us, cl, ud, uv, uh, ib, iv, ic, os, ow, sdv, scv, lev, cs, e8, WR.self e7⟩ e7 (fun x hx => by rw [List.mem_singleton.mp hx]; exact WR.nB))
    | some l =>
      rw [withP_some hp9]
      rw [hp9] at hV
      obtain ⟨pp, sc, ss, cu, ru, rfl, rfl, hN, SA, SB, ⟨s1, s2, s3, s4, s5, s6, s7⟩, hSA, hSB⟩ := hV
      have pf := pf_dn dO hp9
      replace s1 := hSI _ _ s1
      replace s2 := hSI _ _ s2
      have hcn := (hN.sub hSI).cls
      obtain ⟨f, rfl⟩ := toB x c9.1
      have hf : f < 4 := by omega
      have k4f := k4 f hf
      have h99 := pf.2.2.1
      by_cases c8 : 0 ≤ j ∧ j ≤ (((mean l).1.1 : Nat) : Int)
      · rw [if_pos c8]
        obtain ⟨j1, rfl⟩ := toB j c8.1
        refine ev_iload_n dX1_distance_0 rfl ?_
        refine ev_callSN dX1_distance_1 cs_X1_341 ce_X1_checkFormation rfl rfl (k_checkFormationT (d := 0) hr1 c9) (by omega) (Nat.le_of_ble_eq_true rfl) ?_
        refine ev_aload_n dX1_distance_4 rfl ?_
        refine ev_callVN dX1_distance_5 cv_X1_209_X1 ce_X1_checkPiece HO rfl rfl rfl (k_checkPieceT (d := 0) H HO hBo hp9) (by omega) (Nat.le_of_ble_eq_true rfl) ?_
        refine ev_iload_n dX1_distance_8 rfl ?_
        refine ev_i2l dX1_distance_9 ?_
        refine ev_lconst0 dX1_distance_10 ?_
        refine ev_aload_n dX1_distance_11 rfl ?_
        refine ev_getf dX1_distance_12 gf_X1_37_X1 HO rfl ?_
        refine ev_getf dX1_distance_15 gf_X1_280_X2 k1 rfl ?_
        refine ev_getf dX1_distance_18 gf_X1_284_X5 s1 rfl ?_
        refine ev_i2l dX1_distance_21 ?_
        refine ev_callSE dX1_distance_22 cs_X1_108 ce_X1_inRange rfl rfl (k_inRange (d := 0) (a := ((j1 : Nat) : Int)) (lo := 0) (hi := (((mean l).1.1 : Nat) : Int)) (by omega)) (by omega) (Nat.le_of_ble_eq_true rfl) ?_
        refine ev_callSN dX1_distance_25 cs_X1_203 ce_X1_checkElement rfl rfl (k_checkElementT (d := 0) (decide_eq_true c8)) (by omega) (Nat.le_of_ble_eq_true rfl) ?_
        refine ev_iconstZ dX1_distance_28 ?_
        refine ev_istore_n dX1_distance_29 (by decide) rfl ?_
        dsimp only [List.set]
        refine ev_iconstZ dX1_distance_30 ?_
        refine ev_istore dX1_distance_31 (by decide) rfl ?_
        dsimp only [List.set]
        refine ev_for (st := []) 8 (fun i h1 => h1 = h) (fun i => [some (.ref o), some (vz ((f : Nat) : Int)), some (vz ((j1 : Nat) : Int)), some (vz (dsN σ.1 (mean l) f j1 i)), some (vz ((i : Nat) : Int)), none]) 0 (Nat.zero_le _) rfl ⟨rfl, rfl, rfl, rfl, rfl, trivial⟩ (fun i h1 _ hi eh hK => ?_) (fun h1 eh => ?_)
        · subst eh
          have hgl := fo_lt dO hf hi
          have hco := dO.2.1
          have hco2 := dO.1
          by_cases hg : σ.1.2.2.1 f i = -1
          · refine ev_iload dX1_distance_33 rfl ?_
            refine ev_bipushZ dX1_distance_35 rfl ?_
            refine ev_icmp_geZ (tgt := 134) dX1_distance_37 (by decide) (by omega) (by omega) (fun c37 => by omega) (fun c37 => ?_)
            refine ev_aload_n dX1_distance_40 rfl ?_
            refine ev_getf dX1_distance_41 gf_X1_37_X1 HO rfl ?_
            refine ev_getf dX1_distance_44 gf_X1_344_X2 k1 rfl ?_
            refine ev_iload_n dX1_distance_47 rfl ?_
            refine ev_aaldY (v := .ref (fo + 1 + f)) dX1_distance_48 k3 rfl rfl (by omega) (by rw [Int.toNat_natCast, if_pos hf]; rfl) ?_
            refine ev_iload dX1_distance_49 rfl ?_
            refine ev_ialdY dX1_distance_51 k4f (by omega) ?_
            rw [show Bf f ((i : Nat) : Int).toNat = σ.1.2.2.1 f i by rw [Int.toNat_natCast]; exact hB9 f i hf hi]
            refine ev_istore dX1_distance_52 (by decide) rfl ?_
            dsimp only [List.set]
            refine ev_iload dX1_distance_54 rfl ?_
            refine ev_iconstZ dX1_distance_56 ?_
            refine ev_icmp_eqZ (tgt := 128) dX1_distance_57 (by decide) (by omega) (by omega) (fun c57 => ?_) (fun c57 => by omega)
            refine ev_iincZ dX1_distance_128 rfl (by decide) rfl ?_
            dsimp only [List.set]
            refine ev_goto (tgt := 33) dX1_distance_131 (by decide) ?_
            refine hK _ _ ⟨rfl, rfl, rfl, vz_eq ?_, vz_eq (by omega), trivial⟩ rfl
            show _ = dsN σ.1 (mean l) f j1 i + (if inB σ.1 f i then _ else 0)
            rw [show inB σ.1 f i = false by unfold inB; rw [decide_eq_false (fun q => q hg)]; rfl, if_neg (by decide)]; omega
          · cases ht : tkB σ.1 i with
            | false =>
              refine ev_iload dX1_distance_33 rfl ?_
              refine ev_bipushZ dX1_distance_35 rfl ?_
              refine ev_icmp_geZ (tgt := 134) dX1_distance_37 (by decide) (by omega) (by omega) (fun c37 => by omega) (fun c37 => ?_)
              refine ev_aload_n dX1_distance_40 rfl ?_
              refine ev_getf dX1_distance_41 gf_X1_37_X1 HO rfl ?_
              refine ev_getf dX1_distance_44 gf_X1_344_X2 k1 rfl ?_
              refine ev_iload_n dX1_distance_47 rfl ?_
              refine ev_aaldY (v := .ref (fo + 1 + f)) dX1_distance_48 k3 rfl rfl (by omega) (by rw [Int.toNat_natCast, if_pos hf]; rfl) ?_
              refine ev_iload dX1_distance_49 rfl ?_
              refine ev_ialdY dX1_distance_51 k4f (by omega) ?_
              rw [show Bf f ((i : Nat) : Int).toNat = σ.1.2.2.1 f i by rw [Int.toNat_natCast]; exact hB9 f i hf hi]
              refine ev_istore dX1_distance_52 (by decide) rfl ?_
              dsimp only [List.set]
              refine ev_iload dX1_distance_54 rfl ?_
              refine ev_iconstZ dX1_distance_56 ?_
              refine ev_icmp_eqZ (tgt := 128) dX1_distance_57 (by decide) (by omega) (by omega) (fun c57 => by omega) (fun c57 => ?_)
              refine ev_aload_n dX1_distance_60 rfl ?_
              refine ev_getf dX1_distance_61 gf_X1_37_X1 HO rfl ?_
              refine ev_iload dX1_distance_64 rfl ?_
              refine ev_callVE dX1_distance_66 cv_X1_295_X2 ce_X2_takesPart k1 rfl rfl rfl (k_takesX2 (d := 0) H hi (st_in dO hi)) (by omega) (Nat.le_of_ble_eq_true rfl) ?_
              refine ev_if_eqB (tgt := 128) dX1_distance_69 (by decide) (fun c69 => ?_) (fun c69 => by rw [ht] at c69; cases c69)
              refine ev_iincZ dX1_distance_128 rfl (by decide) rfl ?_
              dsimp only [List.set]
              refine ev_goto (tgt := 33) dX1_distance_131 (by decide) ?_
              refine hK _ _ ⟨rfl, rfl, rfl, vz_eq ?_, vz_eq (by omega), trivial⟩ rfl
              show _ = dsN σ.1 (mean l) f j1 i + (if inB σ.1 f i then _ else 0)
              rw [show inB σ.1 f i = false by unfold inB; rw [ht, Bool.and_false], if_neg (by decide)]; omega
            | true =>
              have hst2 : σ.1.2.1 i ≠ -1 := by unfold tkB at ht; exact of_decide_eq_true ht
              have hst : 0 ≤ σ.1.2.1 i ∧ σ.1.2.1 i < 100 := by have := st_lt dO hi; omega
              have hp1 := pos_le dO (mean l) hi (show j1 ≤ 100 by omega)
              have hp2 := posS_R (P := mean l) (k := j1) hst2
              have hdd1 := Int.ediv_nonneg (a := σ.1.2.2.1 f i) (b := ((σ.1.1.1 : Nat) : Int)) (by omega) (by omega)
              have hdd2 := Int.ediv_le_self (a := σ.1.2.2.1 f i) ((σ.1.1.1 : Nat) : Int) (by omega)
              have hmm1 := Int.emod_nonneg (σ.1.2.2.1 f i) (b := ((σ.1.1.1 : Nat) : Int)) (by omega)
              have hmm2 := Int.emod_lt_of_pos (σ.1.2.2.1 f i) (b := ((σ.1.1.1 : Nat) : Int)) (by omega)
              refine ev_iload dX1_distance_33 rfl ?_
              refine ev_bipushZ dX1_distance_35 rfl ?_
              refine ev_icmp_geZ (tgt := 134) dX1_distance_37 (by decide) (by omega) (by omega) (fun c37 => by omega) (fun c37 => ?_)
              refine ev_aload_n dX1_distance_40 rfl ?_
              refine ev_getf dX1_distance_41 gf_X1_37_X1 HO rfl ?_
              refine ev_getf dX1_distance_44 gf_X1_344_X2 k1 rfl ?_
              refine ev_iload_n dX1_distance_47 rfl ?_
              refine ev_aaldY (v := .ref (fo + 1 + f)) dX1_distance_48 k3 rfl rfl (by omega) (by rw [Int.toNat_natCast, if_pos hf]; rfl) ?_
              refine ev_iload dX1_distance_49 rfl ?_
              refine ev_ialdY dX1_distance_51 k4f (by omega) ?_
              rw [show Bf f ((i : Nat) : Int).toNat = σ.1.2.2.1 f i by rw [Int.toNat_natCast]; exact hB9 f i hf hi]
              refine ev_istore dX1_distance_52 (by decide) rfl ?_
              dsimp only [List.set]
              refine ev_iload dX1_distance_54 rfl ?_
              refine ev_iconstZ dX1_distance_56 ?_
              refine ev_icmp_eqZ (tgt := 128) dX1_distance_57 (by decide) (by omega) (by omega) (fun c57 => by omega) (fun c57 => ?_)
              refine ev_aload_n dX1_distance_60 rfl ?_
              refine ev_getf dX1_distance_61 gf_X1_37_X1 HO rfl ?_
              refine ev_iload dX1_distance_64 rfl ?_
              refine ev_callVE dX1_distance_66 cv_X1_295_X2 ce_X2_takesPart k1 rfl rfl rfl (k_takesX2 (d := 0) H hi (st_in dO hi)) (by omega) (Nat.le_of_ble_eq_true rfl) ?_
              refine ev_if_eqB (tgt := 128) dX1_distance_69 (by decide) (fun c69 => by rw [ht] at c69; cases c69) (fun c69 => ?_)
              refine ev_iload_n dX1_distance_72 rfl ?_
              refine ev_iload dX1_distance_73 rfl ?_
              refine ev_aload_n dX1_distance_75 rfl ?_
              refine ev_getf dX1_distance_76 gf_X1_37_X1 HO rfl ?_
              refine ev_getf dX1_distance_79 gf_X1_351_X2 k1 rfl ?_
              refine ev_idivZ dX1_distance_82 (by omega) (by omega) (by omega) (by omega) ?_
              refine ev_aload_n dX1_distance_83 rfl ?_
              refine ev_getf dX1_distance_84 gf_X1_37_X1 HO rfl ?_
              refine ev_iload dX1_distance_87 rfl ?_
              refine ev_iload_n dX1_distance_89 rfl ?_
              refine ev_iconstZ dX1_distance_90 ?_
              refine ev_callVE dX1_distance_91 cv_X1_299_X2 ce_X2_position k1 rfl rfl rfl (k_positionX2 (e := i) (n := j1) (row := true) hSI H hp9 rfl hi hst ⟨dO.1, dO.2.1⟩ ⟨by omega, pf.2.2.1⟩ pf.2.2.2.2.2.2.2) (by omega) (Nat.le_of_ble_eq_true rfl) ?_
              refine ev_isubZ dX1_distance_94 ?_
              refine ev_mabsZ dX1_distance_95 q2525 (by omega) (by omega) (Nat.le_of_ble_eq_true rfl) ?_
              refine ev_iaddZ dX1_distance_98 ?_
              refine ev_istore_n dX1_distance_99 (by decide) rfl ?_
              dsimp only [List.set]
              refine ev_iload_n dX1_distance_100 rfl ?_
              refine ev_iload dX1_distance_101 rfl ?_
              refine ev_aload_n dX1_distance_103 rfl ?_
              refine ev_getf dX1_distance_104 gf_X1_37_X1 HO rfl ?_
              refine ev_getf dX1_distance_107 gf_X1_351_X2 k1 rfl ?_
              refine ev_iremZ dX1_distance_110 (by omega) (by omega) (by omega) (by omega) ?_
              refine ev_aload_n dX1_distance_111 rfl ?_
              refine ev_getf dX1_distance_112 gf_X1_37_X1 HO rfl ?_
              refine ev_iload dX1_distance_115 rfl ?_
              refine ev_iload_n dX1_distance_117 rfl ?_
              refine ev_iconstZ dX1_distance_118 ?_
              refine ev_callVE dX1_distance_119 cv_X1_299_X2 ce_X2_position k1 rfl rfl rfl (k_positionX2 (e := i) (n := j1) (row := false) hSI H hp9 rfl hi hst ⟨dO.1, dO.2.1⟩ ⟨by omega, pf.2.2.1⟩ pf.2.2.2.2.2.2.2) (by omega) (Nat.le_of_ble_eq_true rfl) ?_
              refine ev_isubZ dX1_distance_122 ?_
              refine ev_mabsZ dX1_distance_123 q2525 (by omega) (by omega) (Nat.le_of_ble_eq_true rfl) ?_
              refine ev_iaddZ dX1_distance_126 ?_
              refine ev_istore_n dX1_distance_127 (by decide) rfl ?_
              dsimp only [List.set]
              refine ev_iincZ dX1_distance_128 rfl (by decide) rfl ?_
              dsimp only [List.set]
              refine ev_goto (tgt := 33) dX1_distance_131 (by decide) ?_
              refine hK _ _ ⟨rfl, rfl, rfl, vz_eq ?_, vz_eq (by omega), trivial⟩ rfl
              show _ = dsN σ.1 (mean l) f j1 i + (if inB σ.1 f i then _ else 0)
              rw [show inB σ.1 f i = true by unfold inB; rw [decide_eq_true hg, ht]; rfl, if_pos rfl, (posS_R hst2).1, (posS_R hst2).2, abs_amt, abs_amt]; omega
        · subst eh
          refine ev_iload dX1_distance_33 rfl ?_
          refine ev_bipushZ dX1_distance_35 rfl ?_
          refine ev_icmp_geZ (tgt := 134) dX1_distance_37 (by decide) (by omega) (by omega) (fun c37 => ?_) (fun c37 => by omega)
          refine ev_iload_n dX1_distance_134 rfl ?_
          refine ev_ireturn dX1_distance_135 rfl ?_
          rw [Int.toNat_natCast, Int.toNat_natCast]
          exact XQ.ok W (Fr.refl _ []) nil_B
      · rw [if_neg c8]
        refine ev_iload_n dX1_distance_0 rfl ?_
        refine ev_callSN dX1_distance_1 cs_X1_341 ce_X1_checkFormation rfl rfl (k_checkFormationT (d := 0) hr1 c9) (by omega) (Nat.le_of_ble_eq_true rfl) ?_
        refine ev_aload_n dX1_distance_4 rfl ?_
        refine ev_callVN dX1_distance_5 cv_X1_209_X1 ce_X1_checkPiece HO rfl rfl rfl (k_checkPieceT (d := 0) H HO hBo hp9) (by omega) (Nat.le_of_ble_eq_true rfl) ?_
        refine ev_iload_n dX1_distance_8 rfl ?_
        refine ev_i2l dX1_distance_9 ?_
        refine ev_lconst0 dX1_distance_10 ?_
        refine ev_aload_n dX1_distance_11 rfl ?_
        refine ev_getf dX1_distance_12 gf_X1_37_X1 HO rfl ?_
        refine ev_getf dX1_distance_15 gf_X1_280_X2 k1 rfl ?_
        refine ev_getf dX1_distance_18 gf_X1_284_X5 s1 rfl ?_
        refine ev_i2l dX1_distance_21 ?_
        refine ev_callSE dX1_distance_22 cs_X1_108 ce_X1_inRange rfl rfl (k_inRange (d := 0) (a := j) (lo := 0) (hi := (((mean l).1.1 : Nat) : Int)) (by omega)) (by omega) (Nat.le_of_ble_eq_true rfl) ?_
        refine ev_callS dX1_distance_25 cs_X1_203 ce_X1_checkElement rfl rfl (k_checkElementF hG (decide_eq_false c8)) (by omega) (by omega) (by omega) (Nat.le_of_ble_eq_true rfl) (fun v h2 q => ?_) (fun E q h2 r => ?_)
        · obtain ⟨q9, e9, -⟩ := q; cases e9
        · obtain ⟨q9, e9, rfl⟩ := r
          cases e9
          exact evx_out rfl (XQ.no (by decide) rfl W (Fr.refl _ []) nil_B)
  · rw [if_neg c9]
    refine ev_iload_n dX1_distance_0 rfl ?_
    refine ev_callS dX1_distance_1 cs_X1_341 ce_X1_checkFormation rfl rfl (k_checkFormationF hG hr1 c9) (by omega) (by omega) (by omega) (Nat.le_of_ble_eq_true rfl) (fun v h2 q => ?_) (fun E q h2 r => ?_)
    · obtain ⟨q9, e9, -⟩ := q; cases e9
    · obtain ⟨q9, e9, rfl⟩ := r
      cases e9
      exact evx_out rfl (XQ.no (by decide) rfl W (Fr.refl _ []) nil_B)
set_option maxRecDepth 100000 in
set_option maxHeartbeats 4000000 in
theorem kx_movingShare (hG : GKx g) (K0 : KC g h) (W : WX g N B h o σ) (hO : spOk σ) {x : Int} (hr1 : inR x) (hd : 10 ≤ d) (hc : 1 ≤ c) (hk : 6 ≤ k) : Kc g mX1_movingShare d c k [.ref o, vz x] h (XQd g N B h o (fun m : Int => if m = 1 then "java/lang/IndexOutOfBoundsException" else if m = 2 then "java/lang/IllegalStateException" else "java/lang/ArithmeticException") (fun a b => .float (FP.fdiv (FP.i2f (zI (a : Nat))) (FP.i2f (zI (b : Nat))))) (opShare σ x)) := by
  refine Kc.of (ls := [some (.ref o), some (vz x)]) (by decide +kernel) (Nat.le_of_ble_eq_true rfl) rfl ?_
  obtain ⟨I, own, ⟨pid, a, st, fo⟩, us, cl, ud, uv, uh, ib, iv, ic, os, ow, sdv, scv, lev, cs, HO, WR⟩ := id W
  have HO : h o = some (.inr (0, [.ref a, .ref cl, .ref ud, sdv, scv, .ref ib, .ref os, lev, vz σ.2.2.2.2.2.1, vz σ.2.2.2.2.1])) := HO
  obtain ⟨⟨hBo, ho1, hIo⟩, ⟨hSI, hCI, hBB⟩, KD, KCs, KU, KN, KS, KI, KOu, KE⟩ := id WR
  have H : DnC g I h a st fo σ.1 := KD.1
  have dO := hO.1
  obtain ⟨A, Bf, pv, sv, KDA, hA, hB9, hV⟩ := id H
  obtain ⟨k1, k2, k3, k4, k5, k6, k7, k8⟩ := id KDA
  unfold opShare
  by_cases c9 : 0 ≤ x ∧ x ≤ 7
  · rw [if_pos c9]
    cases hp9 : σ.1.2.2.2 with
    | none =>
      refine ev_iload_n dX1_movingShare_0 rfl ?_
      refine ev_callSN dX1_movingShare_1 cs_X1_140 ce_X1_checkDancer rfl rfl (k_checkDancerT (d := 0) hr1 c9) (by omega) (Nat.le_of_ble_eq_true rfl) ?_
      refine ev_aload_n dX1_movingShare_4 rfl ?_
      refine ev_callV dX1_movingShare_5 cv_X1_209_X1 ce_X1_checkPiece HO rfl rfl rfl (k_checkPieceF H HO hBo hG hp9) (by omega) (by omega) (by omega) (Nat.le_of_ble_eq_true rfl) (fun v h2 q => ?_) (fun E q h2 r => ?_)
      · obtain ⟨q9, e9, -⟩ := q; cases e9
      · obtain ⟨q9, e9, e8, e7⟩ := r
        cases e9
        exact evx_out rfl (XQd.no (by decide) rfl ⟨I, own, (pid, a, st, fo), us, cl, ud, uv, uh, ib, iv, ic, os, ow, sdv, scv, lev, cs, e8, WR.self e7⟩ e7 (fun x hx => by rw [List.mem_singleton.mp hx]; exact WR.nB))
    | some l =>
      rw [hp9] at hV
      obtain ⟨pp, sc, ss, cu, ru, rfl, rfl, hN, SA, SB, ⟨s1, s2, s3, s4, s5, s6, s7⟩, hSA, hSB⟩ := hV
      have pf := pf_dn dO hp9
      replace s1 := hSI _ _ s1
      replace s2 := hSI _ _ s2
      have hcn := (hN.sub hSI).cls
      obtain ⟨e, rfl⟩ := toB x c9.1
      have he : e < 8 := by omega
      have h99 := pf.2.2.1
      have hmv := mvN_le (mean l) e (mean l).1.1
      dsimp only
      by_cases c8 : (mean l).1.1 = 0
      · rw [if_pos c8]
        refine ev_iload_n dX1_movingShare_0 rfl ?_
        refine ev_callSN dX1_movingShare_1 cs_X1_140 ce_X1_checkDancer rfl rfl (k_checkDancerT (d := 0) hr1 c9) (by omega) (Nat.le_of_ble_eq_true rfl) ?_
        refine ev_aload_n dX1_movingShare_4 rfl ?_
        refine ev_callVN dX1_movingShare_5 cv_X1_209_X1 ce_X1_checkPiece HO rfl rfl rfl (k_checkPieceT (d := 0) H HO hBo hp9) (by omega) (Nat.le_of_ble_eq_true rfl) ?_
        refine ev_aload_n dX1_movingShare_8 rfl ?_
        refine ev_getf dX1_movingShare_9 gf_X1_37_X1 HO rfl ?_
        refine ev_getf dX1_movingShare_12 gf_X1_280_X2 k1 rfl ?_
        refine ev_getf dX1_movingShare_15 gf_X1_284_X5 s1 rfl ?_
        refine ev_if_neZ (tgt := 29) dX1_movingShare_18 (by decide) (by omega) (fun c18 => by omega) (fun c18 => ?_)
        refine ev_throw0 (cls := "java/lang/ArithmeticException") (names := ["java/lang/RuntimeException", "java/lang/Exception"]) (ik := 330) (ic := 332) hG (by decide +kernel) (by decide +kernel) q2484 q171 [130, 400, 409, 419, 422, 424, 401, 402, 183, 184, 403, 408, 420, 643, 390, 644, 392, 645, 394, 404, 406, 396, 2486, 2487, 2488, 848, 381, 848, 849, 850, 851, 383, 851, 852, 853, 401, 385, 2485, 2467, 2478, 2479, 413, 2473, 2474, 2476, 2472, 641, 398, 2471] (by decide +kernel) (by decide +kernel) (by decide +kernel) dX1_movingShare_21 dX1_movingShare_24 dX1_movingShare_25 dX1_movingShare_28 (by decide +kernel) (by simp only [List.length_cons, List.length_nil]; omega) (Nat.le_of_ble_eq_true rfl) (by omega) (by omega) (fun q => XQd.no (by decide) rfl W (Fr.refl _ []) nil_B)
      · rw [if_neg c8, Int.toNat_natCast]
        refine ev_iload_n dX1_movingShare_0 rfl ?_
        refine ev_callSN dX1_movingShare_1 cs_X1_140 ce_X1_checkDancer rfl rfl (k_checkDancerT (d := 0) hr1 c9) (by omega) (Nat.le_of_ble_eq_true rfl) ?_
        refine ev_aload_n dX1_movingShare_4 rfl ?_
        refine ev_callVN dX1_movingShare_5 cv_X1_209_X1 ce_X1_checkPiece HO rfl rfl rfl (k_checkPieceT (d := 0) H HO hBo hp9) (by omega) (Nat.le_of_ble_eq_true rfl) ?_
        refine ev_aload_n dX1_movingShare_8 rfl ?_
        refine ev_getf dX1_movingShare_9 gf_X1_37_X1 HO rfl ?_
        refine ev_getf dX1_movingShare_12 gf_X1_280_X2 k1 rfl ?_
        refine ev_getf dX1_movingShare_15 gf_X1_284_X5 s1 rfl ?_
        refine ev_if_neZ (tgt := 29) dX1_movingShare_18 (by decide) (by omega) (fun c18 => ?_) (fun c18 => by omega)
        refine ev_aload_n dX1_movingShare_29 rfl ?_
        refine ev_iload_n dX1_movingShare_30 rfl ?_
        refine ev_callVE dX1_movingShare_31 cv_X1_333_X1 ce_X1_moves HO rfl rfl rfl (k_movesX1 hSI H hp9 rfl HO he pf.2.2.1 pf.2.2.2.2.2.2.2) (by omega) (Nat.le_of_ble_eq_true rfl) ?_
        refine ev_i2f dX1_movingShare_34 ?_
        refine ev_aload_n dX1_movingShare_35 rfl ?_
        refine ev_getf dX1_movingShare_36 gf_X1_37_X1 HO rfl ?_
        refine ev_getf dX1_movingShare_39 gf_X1_280_X2 k1 rfl ?_
        refine ev_getf dX1_movingShare_42 gf_X1_284_X5 s1 rfl ?_
        refine ev_i2f dX1_movingShare_45 ?_
        refine ev_fdiv dX1_movingShare_46 (fdiv_ok (by omega) (by omega) (by omega)) ?_
        refine ev_freturn dX1_movingShare_47 rfl ?_
        exact XQd.ok W (Fr.refl _ []) nil_B
  · rw [if_neg c9]
    refine ev_iload_n dX1_movingShare_0 rfl ?_
    refine ev_callS dX1_movingShare_1 cs_X1_140 ce_X1_checkDancer rfl rfl (k_checkDancerF hG hr1 c9) (by omega) (by omega) (by omega) (Nat.le_of_ble_eq_true rfl) (fun v h2 q => ?_) (fun E q h2 r => ?_)
    · obtain ⟨q9, e9, -⟩ := q; cases e9
    · obtain ⟨q9, e9, rfl⟩ := r
      cases e9
      exact evx_out rfl (XQd.no (by decide) rfl W (Fr.refl _ []) nil_B)
set_option maxRecDepth 100000 in
set_option maxHeartbeats 4000000 in
theorem kx_meanSteps (hG : GKx g) (K0 : KC g h) (W : WX g N B h o σ) (hO : spOk σ) (hL : dnLn σ.1) (hd : 500 ≤ d) (hc : 1 ≤ c) (hk : 6 ≤ k) : Kc g mX1_meanSteps d c k [.ref o] h (XQd g N B h o (fun m : Int => if m = 1 then "java/lang/IllegalStateException" else "java/lang/ArithmeticException") (fun a b => .double (FP.ddiv (FP.i2d (zI (a : Nat))) (FP.i2d (zI (b : Nat))))) (opMean σ)) := by
  refine Kc.of (ls := [some (.ref o), none, none, none]) (by decide +kernel) (Nat.le_of_ble_eq_true rfl) rfl ?_
  obtain ⟨I, own, ⟨pid, a, st, fo⟩, us, cl, ud, uv, uh, ib, iv, ic, os, ow, sdv, scv, lev, cs, HO, WR⟩ := id W
  have HO : h o = some (.inr (0, [.ref a, .ref cl, .ref ud, sdv, scv, .ref ib, .ref os, lev, vz σ.2.2.2.2.2.1, vz σ.2.2.2.2.1])) := HO
  obtain ⟨⟨hBo, ho1, hIo⟩, ⟨hSI, hCI, hBB⟩, KD, KCs, KU, KN, KS, KI, KOu, KE⟩ := id WR
  have H : DnC g I h a st fo σ.1 := KD.1
  have dO := hO.1
  obtain ⟨A, Bf, pv, sv, KDA, hA, hB9, hV⟩ := id H
  obtain ⟨k1, k2, k3, k4, k5, k6, k7, k8⟩ := id KDA
  unfold opMean
  cases hp9 : σ.1.2.2.2 with
  | none =>
    refine ev_aload_n dX1_meanSteps_0 rfl ?_
    refine ev_callV dX1_meanSteps_1 cv_X1_209_X1 ce_X1_checkPiece HO rfl rfl rfl (k_checkPieceF H HO hBo hG hp9) (by omega) (by omega) (by omega) (Nat.le_of_ble_eq_true rfl) (fun v h2 q => ?_) (fun E q h2 r => ?_)
    · obtain ⟨q9, e9, -⟩ := q; cases e9
    · obtain ⟨q9, e9, e8, e7⟩ := r
      cases e9
      exact evx_out rfl (XQd.no (by decide) rfl ⟨I, own, (pid, a, st, fo), us, cl, ud, uv, uh, ib, iv, ic, os, ow, sdv, scv, lev, cs, e8, WR.self e7⟩ e7 (fun x hx => by rw [List.mem_singleton.mp hx]; exact WR.nB))
  | some l =>
    rw [hp9] at hV
    obtain ⟨pp, sc, ss, cu, ru, rfl, rfl, hN, SA, SB, ⟨s1, s2, s3, s4, s5, s6, s7⟩, hSA, hSB⟩ := hV
    have pf := pf_dn dO hp9
    replace s1 := hSI _ _ s1
    replace s2 := hSI _ _ s2
    have hcn := (hN.sub hSI).cls
    have HU : Kc g (fam_used (rootK l)) 405 0 0 [.ref pp] h (sR (some (vz (((mean l).1.2.1 : Nat) : Int))) h) := by rw [← pf.2.2.2.1.1]; exact n_used hG 81 pp l (hN.sub hSI) (by have := hL l hp9; omega) pf.2.1.2
    have hub := pf.2.2.2.2.1
    have hsu := sumU_le (P := mean l) pf.2.2.1 8
    have hb0 := bitsU_0 ⟨(mean l).1.2.1, hub⟩
    dsimp only at hb0 ⊢
    by_cases c8 : bitsU (mean l).1.2.1 8 = 0
    · rw [if_pos c8]
      have hu0 := hb0.mp c8
      refine ev_aload_n dX1_meanSteps_0 rfl ?_
      refine ev_callVN dX1_meanSteps_1 cv_X1_209_X1 ce_X1_checkPiece HO rfl rfl rfl (k_checkPieceT (d := 0) H HO hBo hp9) (by omega) (Nat.le_of_ble_eq_true rfl) ?_
      refine ev_aload_n dX1_meanSteps_4 rfl ?_
      refine ev_getf dX1_meanSteps_5 gf_X1_37_X1 HO rfl ?_
      refine ev_getf dX1_meanSteps_8 gf_X1_121_X2 k1 rfl ?_
      refine ev_callNE dX1_meanSteps_11 (nv_X1_288 hG) fe_used (hcn) rfl rfl (HU) (by omega) (Nat.le_of_ble_eq_true rfl) ?_
      refine ev_istore_n dX1_meanSteps_14 (by decide) rfl ?_
      dsimp only [List.set]
      refine ev_iload_n dX1_meanSteps_15 rfl ?_
      refine ev_if_neZ (tgt := 27) dX1_meanSteps_16 (by decide) (by omega) (fun c16 => by omega) (fun c16 => ?_)
      refine ev_throw0 (cls := "java/lang/ArithmeticException") (names := ["java/lang/RuntimeException", "java/lang/Exception"]) (ik := 330) (ic := 332) hG (by decide +kernel) (by decide +kernel) q2484 q171 [130, 400, 409, 419, 422, 424, 401, 402, 183, 184, 403, 408, 420, 643, 390, 644, 392, 645, 394, 404, 406, 396, 2486, 2487, 2488, 848, 381, 848, 849, 850, 851, 383, 851, 852, 853, 401, 385, 2485, 2467, 2478, 2479, 413, 2473, 2474, 2476, 2472, 641, 398, 2471] (by decide +kernel) (by decide +kernel) (by decide +kernel) dX1_meanSteps_19 dX1_meanSteps_22 dX1_meanSteps_23 dX1_meanSteps_26 (by decide +kernel) (by simp only [List.length_cons, List.length_nil]; omega) (Nat.le_of_ble_eq_true rfl) (by omega) (by omega) (fun q => XQd.no (by decide) rfl W (Fr.refl _ []) nil_B)
    · rw [if_neg c8]
      have hu0 : ¬ (mean l).1.2.1 = 0 := fun q => c8 (hb0.mpr q)
      refine ev_aload_n dX1_meanSteps_0 rfl ?_
      refine ev_callVN dX1_meanSteps_1 cv_X1_209_X1 ce_X1_checkPiece HO rfl rfl rfl (k_checkPieceT (d := 0) H HO hBo hp9) (by omega) (Nat.le_of_ble_eq_true rfl) ?_
      refine ev_aload_n dX1_meanSteps_4 rfl ?_
      refine ev_getf dX1_meanSteps_5 gf_X1_37_X1 HO rfl ?_
      refine ev_getf dX1_meanSteps_8 gf_X1_121_X2 k1 rfl ?_
      refine ev_callNE dX1_meanSteps_11 (nv_X1_288 hG) fe_used (hcn) rfl rfl (HU) (by omega) (Nat.le_of_ble_eq_true rfl) ?_
      refine ev_istore_n dX1_meanSteps_14 (by decide) rfl ?_
      dsimp only [List.set]
      refine ev_iload_n dX1_meanSteps_15 rfl ?_
      refine ev_if_neZ (tgt := 27) dX1_meanSteps_16 (by decide) (by omega) (fun c16 => ?_) (fun c16 => by omega)
      refine ev_iconstZ dX1_meanSteps_27 ?_
      refine ev_istore_n dX1_meanSteps_28 (by decide) rfl ?_
      dsimp only [List.set]
      refine ev_iconstZ dX1_meanSteps_29 ?_
      refine ev_istore_n dX1_meanSteps_30 (by decide) rfl ?_
      dsimp only [List.set]
      refine ev_for (st := []) 8 (fun i h1 => h1 = h) (fun i => [some (.ref o), some (vz (((mean l).1.2.1 : Nat) : Int)), some (vz ((sumU (mean l) i : Nat) : Int)), some (vz ((i : Nat) : Int))]) 0 (Nat.zero_le _) rfl ⟨rfl, rfl, rfl, rfl, trivial⟩ (fun i h1 _ hi eh hK => ?_) (fun h1 eh => ?_)
      · subst eh
        refine ev_iload_n dX1_meanSteps_31 rfl ?_
        refine ev_bipushZ dX1_meanSteps_32 rfl ?_
        refine ev_icmp_geZ (tgt := 51) dX1_meanSteps_34 (by decide) (by omega) (by omega) (fun c34 => by omega) (fun c34 => ?_)
        refine ev_iload_n dX1_meanSteps_37 rfl ?_
        refine ev_aload_n dX1_meanSteps_38 rfl ?_
        refine ev_iload_n dX1_meanSteps_39 rfl ?_
        refine ev_callVE dX1_meanSteps_40 cv_X1_333_X1 ce_X1_moves HO rfl rfl rfl (k_movesX1 hSI H hp9 rfl HO hi pf.2.2.1 pf.2.2.2.2.2.2.2) (by omega) (Nat.le_of_ble_eq_true rfl) ?_
        refine ev_iaddZ dX1_meanSteps_43 ?_
        refine ev_istore_n dX1_meanSteps_44 (by decide) rfl ?_
        dsimp only [List.set]
        refine ev_iincZ dX1_meanSteps_45 rfl (by decide) rfl ?_
        dsimp only [List.set]
        refine ev_goto (tgt := 31) dX1_meanSteps_48 (by decide) ?_
        exact hK _ _ ⟨rfl, rfl, vz_eq (by rw [sumU_s pf.2.2.2.2.2.2.1 hi]; omega), vz_eq (by omega), trivial⟩ rfl
      · subst eh
        refine ev_iload_n dX1_meanSteps_31 rfl ?_
        refine ev_bipushZ dX1_meanSteps_32 rfl ?_
        refine ev_icmp_geZ (tgt := 51) dX1_meanSteps_34 (by decide) (by omega) (by omega) (fun c34 => ?_) (fun c34 => by omega)
        refine ev_iload_n dX1_meanSteps_51 rfl ?_
        refine ev_i2d dX1_meanSteps_52 ?_
        refine ev_iload_n dX1_meanSteps_53 rfl ?_
        refine ev_callSE dX1_meanSteps_54 cs_X1_336 ce_J28_bitCount rfl rfl (k_bitCount (d := 0) pf.2.2.2.2.1) (by omega) (Nat.le_of_ble_eq_true rfl) ?_
        refine ev_i2d dX1_meanSteps_57 ?_
        refine ev_ddiv dX1_meanSteps_58 (ddiv_ok (by omega) c8 (bitsU_le _ _)) ?_
        refine ev_dreturn dX1_meanSteps_59 rfl ?_
        exact XQd.ok W (Fr.refl _ []) nil_B
end X4S

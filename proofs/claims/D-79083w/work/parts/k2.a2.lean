/-! the reference: plan, 9 (printed by gen) -/
section KA2
variable {g : GB} {M : MI} {d c k : Nat} {Q : RS → HM → Prop} {pc : Nat} {ls : List (Option Value)} {st : List Value} {h : HM} {a b : Int} {ad : Nat → Nat} {o : Nat} {h0 : HM} {s : MSt}
theorem wkS_49 (s : MSt) (A B : Nat → Int) (i : Nat) (x : Int) : uA (wkS s A B) 49 i x = wkS s A (uz B i x) := uA_uF _ _ _ _ _
theorem wkS_47 (s : MSt) (A B : Nat → Int) (i : Nat) (x : Int) : uA (wkS s A B) 47 i x = wkS s (uz A i x) B := by
  unfold wkS uA uF
  refine Prod.ext rfl ?_
  funext j
  simp only [uz]
  by_cases h1 : j = 47
  · subst h1; simp
  · by_cases h2 : j = 49
    · subst h2; simp
    · simp [h1, h2]
theorem wkP_stay {C R st gl last k : Nat} {L : PL} (h : ¬ k < last) : wkP C R L st gl last (k + 1) = wkP C R L st gl last k := if_neg h
set_option maxRecDepth 100000 in
set_option maxHeartbeats 4000000 in
theorem k_walks {D : Dn} {P : Pt} {fm n : Nat} {L : PL} (hD : dnAt (s.2 1) D) (hO : dnOk D) (hs17 : s.1 17 = ((P.1.1 : Nat) : Int)) (h99 : P.1.1 ≤ 99) (hp : plAt s D P) (hE : endOk D P) (hpn : pnAt s D P fm n L) (hfm : fm < 4) {dn : Nat} (hdn : dn < 8) (hLd : L dn = none) (hL9 : ∀ (e : Nat) (f : Nat → Nat), e < 8 → L e = some f → ∀ k, k ≤ 20 → f k < 100) {gl last : Nat} (hM : MX g ad o h0 s h) (ht : tkB D dn = true) (hgl : gl < D.1.1 * D.1.2) (hen : enP D.1.1 D.1.2 L (dnE D P dn) gl = some last) (hC : ∀ j x : Nat, j < last + 1 → x < D.1.1 * D.1.2 → s.2 52 (81 * j + x) = bI (ldP D.1.1 D.1.2 L gl last (last - j) x)) (hd : 7 ≤ d) : Kc g mX3_walks d 0 0 [.ref o, vz (fm : Int), vz (dn : Int), vz (last : Int)] h (mP g ad o h0 (fun v s' => v = none ∧ fr s s' [] [47, 48, 49, 50] ∧ (∀ j : Nat, j ≤ 20 → s'.2 47 (21 * dn + j) = ((wkP D.1.1 D.1.2 L (dnE D P dn) gl last j : Nat) : Int)) ∧ (∀ i : Nat, i < 21 * dn ∨ 21 * dn + 21 ≤ i → s'.2 47 i = s.2 47 i) ∧ (∀ j : Nat, j < last → s'.2 49 (20 * dn + j) = ((csP D.1.1 D.1.2 L gl last j (wkP D.1.1 D.1.2 L (dnE D P dn) gl last j) : Nat) : Int)) ∧ (∀ i : Nat, i < 20 * dn ∨ 20 * dn + 20 ≤ i → s'.2 49 i = s.2 49 i) ∧ (∀ i : Nat, s'.2 48 i = if i = dn then (last : Int) else s.2 48 i) ∧ ∀ i : Nat, s'.2 50 i = if i = dn then 1 else s.2 50 i)) := by
  refine Kc.of (ls := [some (.ref o), some (vz (fm : Int)), some (vz (dn : Int)), some (vz (last : Int)), none, none, none]) (by decide +kernel) (Nat.le_of_ble_eq_true rfl) rfl ?_
  have hCR : D.1.1 * D.1.2 ≤ 81 := Nat.mul_le_mul hO.2.1 hO.2.2.2.1
  have hd6 : 6 ≤ d := by omega
  have hf := find_some hen
  have hl20 : last ≤ 20 := by omega
  have hrs := Bool.and_eq_true_iff.mp hf.2.1
  have hst := dnE_lt hE hdn ht
  have hwk := wk_ok (gl := gl) (last := last) (L := L) (show 0 < D.1.1 by have := hO.1; omega) hst (ld_back last gl (Nat.le_refl _) hrs.1 (by rw [Nat.sub_self]; exact decide_eq_true rfl))
  refine ev_aload_n dX3_walks_0 rfl ?_
  refine ev_iload_n dX3_walks_1 rfl ?_
  refine mx_call dX3_walks_2 cv_X3_388_X3 ce_X3_endOf hM rfl rfl (k_endOf (D := D) (P := P) (e := dn) hM hD hO hs17 h99 hp hdn (d := d - 1) (by omega)) (by omega) (Nat.le_of_ble_eq_true rfl) (fun h hM => ?_)
  rw [dnE_val hE hdn ht]
  refine ev_istore dX3_walks_5 (by decide) rfl ?_
  dsimp only [List.set]
  refine ev_iconstZ dX3_walks_7 ?_
  refine ev_istore dX3_walks_8 (by decide) rfl ?_
  dsimp only [List.set]
  refine ev_for 21 (fun k h => ∃ A B : Nat → Int, MX g ad o h0 (wkS s A B) h ∧ wkI s D L dn (dnE D P dn) gl last k A B) (fun k => [some (.ref o), some (vz (fm : Int)), some (vz (dn : Int)), some (vz (last : Int)), some (vz ((wkP D.1.1 D.1.2 L (dnE D P dn) gl last k : Nat) : Int)), some (vz ((k : Nat) : Int)), none]) 0 (by omega) ⟨s.2 47, s.2 49, by unfold wkS; rw [uF_self, uF_self]; exact hM, ⟨fun j hj => by omega, fun i _ => rfl, fun j hj => by omega, fun i _ => rfl⟩⟩ ⟨rfl, rfl, rfl, rfl, rfl, vz_eq (by omega), trivial⟩ (fun k h hi1 hi2 hX hN => ?_) (fun h hX => ?_)
  · clear hM
    obtain ⟨A, B, hM, hI⟩ := hX
    have hpw := hpn.wk hLd hI
    have hwl : wkP D.1.1 D.1.2 L (dnE D P dn) gl last k < D.1.1 * D.1.2 := by
      rcases Nat.lt_or_ge k last with q | q
      · exact (hwk k (by omega)).2.1
      · rw [wk_stay k q]; exact (hwk last (Nat.le_refl _)).2.1
    by_cases hkl : k < last
    · refine ev_iload dX3_walks_10 rfl ?_
      refine ev_bipushZ dX3_walks_12 rfl ?_
      refine ev_icmp_gtZ (tgt := 133) dX3_walks_14 (by decide) (by omega) (by omega) (fun c => absurd c (by omega)) (fun _ => ?_)
      refine ev_aload_n dX3_walks_17 rfl ?_
      refine mx_getA hM dX3_walks_18 gf_X3_89_X3 rfl ?_
      refine ev_bipushZ dX3_walks_21 rfl ?_
      refine ev_iload_n dX3_walks_23 rfl ?_
      refine ev_imulZ dX3_walks_24 ?_
      refine ev_iload dX3_walks_25 rfl ?_
      refine ev_iaddZ dX3_walks_27 ?_
      refine ev_to (b := ((21 * dn + k : Nat) : Int)) (by omega) ?_
      refine ev_iload dX3_walks_28 rfl ?_
      refine mx_iast hM rfl dX3_walks_30 (by omega) (fun h hM => ?_)
      rw [Int.toNat_natCast, wkS_47] at hM
      have hI2 : wkI s D L dn (dnE D P dn) gl last k (uz A (21 * dn + k) (((wkP D.1.1 D.1.2 L (dnE D P dn) gl last k : Nat)) : Int)) B ∧ uz A (21 * dn + k) (((wkP D.1.1 D.1.2 L (dnE D P dn) gl last k : Nat)) : Int) (21 * dn + k) = (((wkP D.1.1 D.1.2 L (dnE D P dn) gl last k : Nat)) : Int) := ⟨⟨fun j hj => by rw [uz_ne (by omega)]; exact hI.1 j hj, fun i hi => by rw [uz_ne (by omega)]; exact hI.2.1 i hi, hI.2.2.1, hI.2.2.2⟩, uz_same _ _ _⟩
      refine ev_iload dX3_walks_31 rfl ?_
      refine ev_iload_n dX3_walks_33 rfl ?_
      refine ev_icmp_geZ (tgt := 127) dX3_walks_34 (by decide) (by omega) (by omega) (fun c => absurd c (by omega)) (fun _ => ?_)
      have hpw2 := hpn.wk hLd hI2.1
      obtain ⟨-, -, w9⟩ := hwk (k + 1) (by omega)
      obtain ⟨w1, w2, w3, w4⟩ := w9 k rfl
      refine wk_srch hD hO hs17 h99 hp hE hpn hfm hdn hLd hL9 hl20 hkl hC hpw2 hwl w1 w2 w3 w4 hM hd6 (fun h hM => ?_)
      rw [wkS_49] at hM
      refine ev_iincZ dX3_walks_127 rfl (by decide) rfl ?_
      dsimp only [List.set]
      refine ev_goto (tgt := 10) dX3_walks_130 (by decide) ?_
      refine hN _ _ ⟨rfl, rfl, rfl, rfl, rfl, vz_eq (by omega), trivial⟩ ⟨_, _, hM, ⟨fun j hj => ?_, hI2.1.2.1, fun j hj hj2 => ?_, fun i hi => by rw [uz_ne (by omega)]; exact hI.2.2.2 i hi⟩⟩
      · by_cases e : j = k
        · rw [e]; exact hI2.2
        · exact hI2.1.1 j (by omega)
      · by_cases e : j = k
        · rw [e, uz_same]
        · rw [uz_ne (by omega)]; exact hI.2.2.1 j (by omega) hj2
    · refine ev_iload dX3_walks_10 rfl ?_
      refine ev_bipushZ dX3_walks_12 rfl ?_
      refine ev_icmp_gtZ (tgt := 133) dX3_walks_14 (by decide) (by omega) (by omega) (fun c => absurd c (by omega)) (fun _ => ?_)
      refine ev_aload_n dX3_walks_17 rfl ?_
      refine mx_getA hM dX3_walks_18 gf_X3_89_X3 rfl ?_
      refine ev_bipushZ dX3_walks_21 rfl ?_
      refine ev_iload_n dX3_walks_23 rfl ?_
      refine ev_imulZ dX3_walks_24 ?_
      refine ev_iload dX3_walks_25 rfl ?_
      refine ev_iaddZ dX3_walks_27 ?_
      refine ev_to (b := ((21 * dn + k : Nat) : Int)) (by omega) ?_
      refine ev_iload dX3_walks_28 rfl ?_
      refine mx_iast hM rfl dX3_walks_30 (by omega) (fun h hM => ?_)
      rw [Int.toNat_natCast, wkS_47] at hM
      have hI2 : wkI s D L dn (dnE D P dn) gl last k (uz A (21 * dn + k) (((wkP D.1.1 D.1.2 L (dnE D P dn) gl last k : Nat)) : Int)) B ∧ uz A (21 * dn + k) (((wkP D.1.1 D.1.2 L (dnE D P dn) gl last k : Nat)) : Int) (21 * dn + k) = (((wkP D.1.1 D.1.2 L (dnE D P dn) gl last k : Nat)) : Int) := ⟨⟨fun j hj => by rw [uz_ne (by omega)]; exact hI.1 j hj, fun i hi => by rw [uz_ne (by omega)]; exact hI.2.1 i hi, hI.2.2.1, hI.2.2.2⟩, uz_same _ _ _⟩
      refine ev_iload dX3_walks_31 rfl ?_
      refine ev_iload_n dX3_walks_33 rfl ?_
      refine ev_icmp_geZ (tgt := 127) dX3_walks_34 (by decide) (by omega) (by omega) (fun _ => ?_) (fun c => absurd (by omega) c)
      refine ev_iincZ dX3_walks_127 rfl (by decide) rfl ?_
      dsimp only [List.set]
      refine ev_goto (tgt := 10) dX3_walks_130 (by decide) ?_
      refine hN _ _ ⟨rfl, rfl, rfl, rfl, by rw [wkP_stay hkl], vz_eq (by omega), trivial⟩ ⟨_, B, hM, ⟨fun j hj => ?_, hI2.1.2.1, fun j hj hj2 => hI.2.2.1 j (by omega) hj2, hI.2.2.2⟩⟩
      by_cases e : j = k
      · rw [e]; exact hI2.2
      · exact hI2.1.1 j (by omega)
  · clear hM
    obtain ⟨A, B, hM, hI⟩ := hX
    refine ev_iload dX3_walks_10 rfl ?_
    refine ev_bipushZ dX3_walks_12 rfl ?_
    refine ev_icmp_gtZ (tgt := 133) dX3_walks_14 (by decide) (by omega) (by omega) (fun _ => ?_) (fun c => absurd (by omega) c)
    refine ev_aload_n dX3_walks_133 rfl ?_
    refine mx_getA hM dX3_walks_134 gf_X3_92_X3 rfl ?_
    refine ev_iload_n dX3_walks_137 rfl ?_
    refine ev_iload_n dX3_walks_138 rfl ?_
    refine mx_iast hM rfl dX3_walks_139 (by omega) (fun h hM => ?_)
    rw [Int.toNat_natCast] at hM
    refine ev_aload_n dX3_walks_140 rfl ?_
    refine mx_getA hM dX3_walks_141 gf_X3_98_X3 rfl ?_
    refine ev_iload_n dX3_walks_144 rfl ?_
    refine ev_iconstZ dX3_walks_145 ?_
    refine mx_zast hM rfl dX3_walks_146 (by omega) (by omega) (fun h hM => ?_)
    rw [Int.toNat_natCast] at hM
    refine ev_return dX3_walks_147 rfl ?_
    refine ⟨none, uA (uA (wkS s A B) 48 dn (last : Int)) 50 dn 1, rfl, ⟨rfl, fr.A (fr.A (fr.F (fr.F (fr.refl _ _ _) rfl) rfl) rfl) rfl, fun j hj => hI.1 j (by omega), hI.2.1, fun j hj => hI.2.2.1 j (by omega) hj, hI.2.2.2, fun i => rfl, fun i => rfl⟩, hM⟩
end KA2

/-! THE COMPONENT: displacement() of nodes, of a tree (printed by gen) -/
section S0S
variable {g : GB} {M : MI} {d c k : Nat} {h : HM}
set_option maxRecDepth 100000 in
set_option maxHeartbeats 4000000 in
theorem k_ds12 {a : Nat} {x r : Int} : Kc g mX12_displacement d (0) (0) [.ref a, vz x, vz r] h (sR (some (vz 0)) h) := by
  refine Kc.of (ls := [some (.ref a), some (vz x), some (vz r)]) (by decide +kernel) (Nat.le_of_ble_eq_true rfl) rfl ?_
  refine ev_iconstZ dX12_displacement_0 ?_
  refine ev_ireturn dX12_displacement_1 rfl ?_
  exact ⟨rfl, rfl⟩
set_option maxRecDepth 100000 in
set_option maxHeartbeats 4000000 in
theorem k_ds13 {a x : Nat} {row : Bool} {nd : Nd} (hG : GKx g) (H : ndC h a nd []) (hk9 : nd.1 ≤ 1) (ho : ndOk2 nd) (hx : x < 8) (hd : 6 ≤ d) : Kc g mX13_displacement d (0) (0) [.ref a, vz ((x : Nat) : Int), vz (bI row)] h (sR (some (vz (if (twl nd.2.2.2.1).2.testBit x = true then sumI (fun j => stx row (nd.2.2.2.2.getD j 0)) nd.2.2.2.2.length else 0))) h) := by
  refine Kc.of (ls := [some (.ref a), some (vz ((x : Nat) : Int)), some (vz (bI row)), none, none]) (by decide +kernel) (Nat.le_of_ble_eq_true rfl) rfl ?_
  obtain ⟨da, st, sv, D, -, ha, hda, hD, hT, -, hl⟩ := H.1 hk9
  obtain ⟨A9, x9, y9, hst, hsv, hb9, hn9⟩ := id hT
  rw [List.length_map] at hn9
  have hk1 := ho.1.2.2.2 hk9
  have hsl := hk1.2.2.2
  have hub := (twl_lt nd.2.2.2.1 hk1.2.2.1 nd.2.2.2.1.length (Nat.le_refl _)).2
  rw [List.take_length] at hub
  refine ev_iconstZ dX13_displacement_0 ?_
  refine ev_istore_n dX13_displacement_1 (by decide) rfl ?_
  dsimp only [List.set]
  refine ev_iconstZ dX13_displacement_2 ?_
  refine ev_istore dX13_displacement_3 (by decide) rfl ?_
  dsimp only [List.set]
  refine ev_for (st := []) nd.2.2.2.2.length (fun i h1 => h1 = h) (fun i => [some (.ref a), some (vz ((x : Nat) : Int)), some (vz (bI row)), some (vz (sumI (fun j => stx row (nd.2.2.2.2.getD j 0)) i)), some (vz ((i : Nat) : Int))]) 0 (Nat.zero_le _) rfl ⟨rfl, rfl, rfl, rfl, rfl, trivial⟩ (fun i h1 _ hi eh hK => ?_) (fun h1 eh => ?_)
  · subst eh
    obtain ⟨u, hu⟩ : ∃ u, nd.2.2.2.2[i]? = some u := ⟨_, List.getElem?_eq_getElem hi⟩
    have hu4 := mem_le hsl u (List.mem_of_getElem? hu)
    have hgu : nd.2.2.2.2.getD i 0 = u := by rw [List.getD_eq_getElem?_getD, hu]; rfl
    refine ev_iload dX13_displacement_5 rfl ?_
    refine ev_aload_n dX13_displacement_7 rfl ?_
    refine ev_getf dX13_displacement_8 gf_X13_15_X13 ha rfl ?_
    refine ev_callVE dX13_displacement_11 cv_X13_27_J7 ce_J7_length hst rfl rfl rfl (st_length hT hG) (by omega) (Nat.le_of_ble_eq_true rfl) ?_
    rw [List.length_map]
    refine ev_icmp_geZ (tgt := 57) dX13_displacement_14 (by decide) (by omega) (by omega) (fun c14 => by omega) (fun c14 => ?_)
    refine ev_iload_n dX13_displacement_17 rfl ?_
    refine ev_iload_n dX13_displacement_18 rfl ?_
    refine ev_if_eqB (tgt := 37) dX13_displacement_19 (by decide) (fun c19 => ?_) (fun c19 => ?_)
    · refine ev_aload_n dX13_displacement_37 rfl ?_
      refine ev_getf dX13_displacement_38 gf_X13_15_X13 ha rfl ?_
      refine ev_iload dX13_displacement_41 rfl ?_
      refine ev_callVE dX13_displacement_43 cv_X13_56_J7 ce_J7_charAt hst rfl rfl rfl (st_charAt (u := sgN u) hT hG (by omega) (by rw [Int.toNat_natCast, List.getElem?_map, hu]; rfl)) (by omega) (Nat.le_of_ble_eq_true rfl) ?_
      refine ev_callSE dX13_displacement_46 cs_X13_70 ce_X1_columnsOf rfl rfl (k_columnsOf (d := 0) hu4) (by omega) (Nat.le_of_ble_eq_true rfl) ?_
      refine ev_iaddZ dX13_displacement_49 ?_
      refine ev_istore_n dX13_displacement_50 (by decide) rfl ?_
      dsimp only [List.set]
      refine ev_iincZ dX13_displacement_51 rfl (by decide) rfl ?_
      dsimp only [List.set]
      refine ev_goto (tgt := 5) dX13_displacement_54 (by decide) ?_
      exact hK _ _ ⟨rfl, rfl, rfl, vz_eq (by
        show _ = sumI _ i + stx row (nd.2.2.2.2.getD i 0)
        rw [hgu, c19]; rfl), vz_eq (by omega), trivial⟩ rfl
    · refine ev_aload_n dX13_displacement_22 rfl ?_
      refine ev_getf dX13_displacement_23 gf_X13_15_X13 ha rfl ?_
      refine ev_iload dX13_displacement_26 rfl ?_
      refine ev_callVE dX13_displacement_28 cv_X13_56_J7 ce_J7_charAt hst rfl rfl rfl (st_charAt (u := sgN u) hT hG (by omega) (by rw [Int.toNat_natCast, List.getElem?_map, hu]; rfl)) (by omega) (Nat.le_of_ble_eq_true rfl) ?_
      refine ev_callSE dX13_displacement_31 cs_X13_66 ce_X1_rowsOf rfl rfl (k_rowsOf (d := 0) hu4) (by omega) (Nat.le_of_ble_eq_true rfl) ?_
      refine ev_goto (tgt := 49) dX13_displacement_34 (by decide) ?_
      refine ev_iaddZ dX13_displacement_49 ?_
      refine ev_istore_n dX13_displacement_50 (by decide) rfl ?_
      dsimp only [List.set]
      refine ev_iincZ dX13_displacement_51 rfl (by decide) rfl ?_
      dsimp only [List.set]
      refine ev_goto (tgt := 5) dX13_displacement_54 (by decide) ?_
      exact hK _ _ ⟨rfl, rfl, rfl, vz_eq (by
        show _ = sumI _ i + stx row (nd.2.2.2.2.getD i 0)
        rw [hgu, c19]; rfl), vz_eq (by omega), trivial⟩ rfl
  · subst eh
    refine ev_iload dX13_displacement_5 rfl ?_
    refine ev_aload_n dX13_displacement_7 rfl ?_
    refine ev_getf dX13_displacement_8 gf_X13_15_X13 ha rfl ?_
    refine ev_callVE dX13_displacement_11 cv_X13_27_J7 ce_J7_length hst rfl rfl rfl (st_length hT hG) (by omega) (Nat.le_of_ble_eq_true rfl) ?_
    rw [List.length_map]
    refine ev_icmp_geZ (tgt := 57) dX13_displacement_14 (by decide) (by omega) (by omega) (fun c14 => ?_) (fun c14 => by omega)
    refine ev_aload_n dX13_displacement_57 rfl ?_
    refine ev_callVE dX13_displacement_58 cv_X13_73_X13 ce_X13_used ha rfl rfl rfl (k_usedP (d := 5) hG H hk9 ho (Nat.le_refl _)) (by omega) (Nat.le_of_ble_eq_true rfl) ?_
    refine ev_iload_n dX13_displacement_61 rfl ?_
    refine ev_ishrZ (u := (twl nd.2.2.2.1).2) (e := x) dX13_displacement_62 hub hx ?_
    refine ev_iconstZ dX13_displacement_63 ?_
    refine ev_iandZ (a := (twl nd.2.2.2.1).2 >>> x) (b := 1) dX13_displacement_64 (by have := Nat.shiftRight_le (twl nd.2.2.2.1).2 x; omega) (by have := Nat.shiftRight_le (twl nd.2.2.2.1).2 x; omega) ?_
    rw [bit_e hub hx]
    refine ev_iconstZ dX13_displacement_65 ?_
    refine ev_icmp_neZ (tgt := 73) dX13_displacement_66 (by decide) (by (try split) <;> omega) (by (try split) <;> omega) (fun c66 => ?_) (fun c66 => ?_)
    · have hb : ¬ (twl nd.2.2.2.1).2.testBit x = true := fun q => by rw [if_pos q] at c66; exact c66 rfl
      refine ev_iconstZ dX13_displacement_73 ?_
      refine ev_ireturn dX13_displacement_74 rfl ?_
      first | (rw [if_pos hb]; exact ⟨rfl, rfl⟩) | (rw [if_neg hb]; exact ⟨rfl, rfl⟩)
    · have hb : (twl nd.2.2.2.1).2.testBit x = true := by
        cases q : (twl nd.2.2.2.1).2.testBit x with
        | true => rfl
        | false => rw [q] at c66; exact absurd c66 (by decide)
      refine ev_iload_n dX13_displacement_69 rfl ?_
      refine ev_goto (tgt := 74) dX13_displacement_70 (by decide) ?_
      refine ev_ireturn dX13_displacement_74 rfl ?_
      first | (rw [if_pos hb]; exact ⟨rfl, rfl⟩) | (rw [if_neg hb]; exact ⟨rfl, rfl⟩)
set_option maxRecDepth 100000 in
set_option maxHeartbeats 4000000 in
theorem k_ds10 {a q x κ D n : Nat} {v : Int} {row : Bool} (hG : GKx g) (ha : h a = some (.inr (7, [.ref q, vz ((n : Nat) : Int)]))) (hk : ∃ fs, h q = some (.inr (nCi κ, fs))) (hK : Kc g (fam_displacement κ) D 0 0 [.ref q, vz ((x : Nat) : Int), vz (bI row)] h (sR (some (vz v)) h)) (hd : D + 1 ≤ d) : Kc g mX10_displacement d (0) (0) [.ref a, vz ((x : Nat) : Int), vz (bI row)] h (sR (some (vz (((n : Nat) : Int) * v))) h) := by
  refine Kc.of (ls := [some (.ref a), some (vz ((x : Nat) : Int)), some (vz (bI row))]) (by decide +kernel) (Nat.le_of_ble_eq_true rfl) rfl ?_
  refine ev_aload_n dX10_displacement_0 rfl ?_
  refine ev_getf dX10_displacement_1 gf_X10_7_X10 ha rfl ?_
  refine ev_aload_n dX10_displacement_4 rfl ?_
  refine ev_getf dX10_displacement_5 gf_X10_20_X10 ha rfl ?_
  refine ev_iload_n dX10_displacement_8 rfl ?_
  refine ev_iload_n dX10_displacement_9 rfl ?_
  refine ev_callNE dX10_displacement_10 (nv_X10_31 hG) fe_displacement (hk) rfl rfl (hK) (by omega) (Nat.le_of_ble_eq_true rfl) ?_
  refine ev_imulZ dX10_displacement_13 ?_
  refine ev_ireturn dX10_displacement_14 rfl ?_
  exact ⟨rfl, rfl⟩
set_option maxRecDepth 100000 in
set_option maxHeartbeats 4000000 in
theorem k_ds15 {a q x κ D : Nat} {v : Int} {row : Bool} (hG : GKx g) (ha : h a = some (.inr (11, [.ref q]))) (hk : ∃ fs, h q = some (.inr (nCi κ, fs))) (hK : Kc g (fam_displacement κ) D 0 0 [.ref q, vz ((x : Nat) : Int), vz (bI row)] h (sR (some (vz v)) h)) (hd : D + 1 ≤ d) : Kc g mX15_displacement d (0) (0) [.ref a, vz ((x : Nat) : Int), vz (bI row)] h (sR (some (vz (-v))) h) := by
  refine Kc.of (ls := [some (.ref a), some (vz ((x : Nat) : Int)), some (vz (bI row))]) (by decide +kernel) (Nat.le_of_ble_eq_true rfl) rfl ?_
  refine ev_aload_n dX15_displacement_0 rfl ?_
  refine ev_getf dX15_displacement_1 gf_X15_9_X15 ha rfl ?_
  refine ev_iload_n dX15_displacement_4 rfl ?_
  refine ev_iload_n dX15_displacement_5 rfl ?_
  refine ev_callNE dX15_displacement_6 (nv_X15_21 hG) fe_displacement (hk) rfl rfl (hK) (by omega) (Nat.le_of_ble_eq_true rfl) ?_
  refine ev_inegZ dX15_displacement_9 ?_
  refine ev_ireturn dX15_displacement_10 rfl ?_
  exact ⟨rfl, rfl⟩
set_option maxRecDepth 100000 in
set_option maxHeartbeats 4000000 in
theorem k_ds14 {a q x κ D : Nat} {v : Int} {row : Bool} (hG : GKx g) (ha : h a = some (.inr (10, [.ref q]))) (hk : ∃ fs, h q = some (.inr (nCi κ, fs))) (hK : Kc g (fam_displacement κ) D 0 0 [.ref q, vz ((x : Nat) : Int), vz (bI row)] h (sR (some (vz v)) h)) (hd : D + 1 ≤ d) : Kc g mX14_displacement d (0) (0) [.ref a, vz ((x : Nat) : Int), vz (bI row)] h (sR (some (vz (if row then v else -v))) h) := by
  refine Kc.of (ls := [some (.ref a), some (vz ((x : Nat) : Int)), some (vz (bI row)), none]) (by decide +kernel) (Nat.le_of_ble_eq_true rfl) rfl ?_
  refine ev_aload_n dX14_displacement_0 rfl ?_
  refine ev_getf dX14_displacement_1 gf_X14_9_X14 ha rfl ?_
  refine ev_iload_n dX14_displacement_4 rfl ?_
  refine ev_iload_n dX14_displacement_5 rfl ?_
  refine ev_callNE dX14_displacement_6 (nv_X14_21 hG) fe_displacement (hk) rfl rfl (hK) (by omega) (Nat.le_of_ble_eq_true rfl) ?_
  refine ev_istore_n dX14_displacement_9 (by decide) rfl ?_
  dsimp only [List.set]
  refine ev_iload_n dX14_displacement_10 rfl ?_
  refine ev_if_eqB (tgt := 18) dX14_displacement_11 (by decide) (fun c11 => ?_) (fun c11 => ?_)
  · refine ev_iload_n dX14_displacement_18 rfl ?_
    refine ev_inegZ dX14_displacement_19 ?_
    refine ev_ireturn dX14_displacement_20 rfl ?_
    rw [c11]; exact ⟨rfl, rfl⟩
  · refine ev_iload_n dX14_displacement_14 rfl ?_
    refine ev_goto (tgt := 20) dX14_displacement_15 (by decide) ?_
    refine ev_ireturn dX14_displacement_20 rfl ?_
    rw [c11]; exact ⟨rfl, rfl⟩
def sumL (vs : List Int) : Int := vs.foldl (· + ·) 0
theorem sumL_take {vs : List Int} {i : Nat} {v : Int} (h : vs[i]? = some v) : sumL (vs.take (i + 1)) = sumL (vs.take i) + v := by
  unfold sumL; rw [take_snoc h, List.foldl_append]; rfl
set_option maxRecDepth 100000 in
set_option maxHeartbeats 4000000 in
theorem k_ds16 {a pl v cap D x : Nat} {z mc : Int} {row : Bool} {f : Nat → Option Nat} {as : List Nat} {vs : List Int} (hG : GKx g) (ha : h a = some (.inr (12, [vz z, .ref pl]))) (hpl : h pl = some (.inr (29, [vz mc, .ref v, vz ((as.length : Nat) : Int)]))) (hv : h v = some (.inl (9, (cap, .inr (.inr (.inr (.inr (f)))))))) (hf : ∀ i : Nat, i < as.length → f i = as[i]?) (hcap : as.length ≤ cap) (hl : as.length < 1000000) (hvl : vs.length = as.length) (hP : ∀ (i q : Nat) (w : Int), as[i]? = some q → vs[i]? = some w → ∃ κ : Nat, (∃ fs, h q = some (.inr (nCi κ, fs))) ∧ Kc g (fam_displacement κ) D 0 0 [.ref q, vz ((x : Nat) : Int), vz (bI row)] h (sR (some (vz w)) h)) (hd : 4 ≤ d ∧ D + 1 ≤ d) : Kc g mX16_displacement d (0) (0) [.ref a, vz ((x : Nat) : Int), vz (bI row)] h (sR (some (vz (sumL vs))) h) := by
  refine Kc.of (ls := [some (.ref a), some (vz ((x : Nat) : Int)), some (vz (bI row)), none, none, none]) (by decide +kernel) (Nat.le_of_ble_eq_true rfl) rfl ?_
  refine ev_iconstZ dX16_displacement_0 ?_
  refine ev_istore_n dX16_displacement_1 (by decide) rfl ?_
  dsimp only [List.set]
  refine ev_iconstZ dX16_displacement_2 ?_
  refine ev_istore dX16_displacement_3 (by decide) rfl ?_
  dsimp only [List.set]
  refine ev_for (st := []) vs.length (fun i h1 => h1 = h) (fun i => [some (.ref a), some (vz ((x : Nat) : Int)), some (vz (bI row)), some (vz (sumL (vs.take i))), some (vz ((i : Nat) : Int)), none]) 0 (Nat.zero_le _) rfl ⟨rfl, rfl, rfl, rfl, rfl, trivial⟩ (fun i h1 _ hi eh hN => ?_) (fun h1 eh => ?_)
  · subst eh
    obtain ⟨w, hw⟩ : ∃ w, vs[i]? = some w := ⟨_, List.getElem?_eq_getElem hi⟩
    obtain ⟨q, hq⟩ : ∃ q, as[i]? = some q := ⟨_, List.getElem?_eq_getElem (by omega)⟩
    obtain ⟨κ, hk, hK2⟩ := hP i q w hq hw
    refine ev_iload dX16_displacement_5 rfl ?_
    refine ev_aload_n dX16_displacement_7 rfl ?_
    refine ev_getf dX16_displacement_8 gf_X16_15_X16 ha rfl ?_
    refine ev_callVE dX16_displacement_11 cv_X16_19_J26 ce_J26_size hpl rfl rfl rfl (al_size hpl) (by omega) (Nat.le_of_ble_eq_true rfl) ?_
    refine ev_icmp_geZ (tgt := 47) dX16_displacement_14 (by decide) (by omega) (by omega) (fun c14 => by omega) (fun c14 => ?_)
    refine ev_aload_n dX16_displacement_17 rfl ?_
    refine ev_getf dX16_displacement_18 gf_X16_15_X16 ha rfl ?_
    refine ev_iload dX16_displacement_21 rfl ?_
    refine ev_callVE dX16_displacement_23 cv_X16_25_J26 ce_J26_get hpl rfl rfl rfl (al_get hpl hv (by omega) (by omega) (by rw [Int.toNat_natCast, hf i (by omega), hq])) (by omega) (Nat.le_of_ble_eq_true rfl) ?_
    refine ev_castN dX16_displacement_26 q908 hk ?_
    refine ev_astore dX16_displacement_29 (by decide) rfl ?_
    dsimp only [List.set]
    refine ev_iload_n dX16_displacement_31 rfl ?_
    refine ev_aload dX16_displacement_32 rfl ?_
    refine ev_iload_n dX16_displacement_34 rfl ?_
    refine ev_iload_n dX16_displacement_35 rfl ?_
    refine ev_callNE dX16_displacement_36 (nv_X16_63 hG) fe_displacement (hk) rfl rfl (hK2) (by omega) (Nat.le_of_ble_eq_true rfl) ?_
    refine ev_iaddZ dX16_displacement_39 ?_
    refine ev_istore_n dX16_displacement_40 (by decide) rfl ?_
    dsimp only [List.set]
    refine ev_iincZ dX16_displacement_41 rfl (by decide) rfl ?_
    dsimp only [List.set]
    refine ev_goto (tgt := 5) dX16_displacement_44 (by decide) ?_
    exact hN _ _ ⟨rfl, rfl, rfl, vz_eq (by rw [sumL_take hw]), vz_eq (by omega), trivial⟩ rfl
  · subst eh
    refine ev_iload dX16_displacement_5 rfl ?_
    refine ev_aload_n dX16_displacement_7 rfl ?_
    refine ev_getf dX16_displacement_8 gf_X16_15_X16 ha rfl ?_
    refine ev_callVE dX16_displacement_11 cv_X16_19_J26 ce_J26_size hpl rfl rfl rfl (al_size hpl) (by omega) (Nat.le_of_ble_eq_true rfl) ?_
    refine ev_icmp_geZ (tgt := 47) dX16_displacement_14 (by decide) (by omega) (by omega) (fun c14 => ?_) (fun c14 => by omega)
    refine ev_iload_n dX16_displacement_47 rfl ?_
    refine ev_ireturn dX16_displacement_48 rfl ?_
    exact ⟨by rw [List.take_length], rfl⟩
/-! what it is -/
theorem ds_times {O : Op} {e : Nat} (row : Bool) (he : e < 8) (hO : sOk O.2.1.1 O.2.1.2.1 O.2.2.2.1) : ∀ t : Nat, O.2.1.1 * t ≤ 99 → sumI (fun k => stx row (timesS O t e k)) 99 = ((t : Nat) : Int) * sumI (fun k => stx row (onceS O e k)) O.2.1.1 := by
  intro t
  induction t with
  | zero =>
    intro _
    show sumI (fun k => stx row 0) 99 = _
    rw [sumI_congr (h := fun _ => 0) 99 (fun k _ => stx_0 row), sumI_zero]; simp
  | succ t ih =>
    intro ht
    rw [Nat.mul_succ] at ht
    have e1 : sumI (fun k => stx row (timesS O (t + 1) e k)) 99 = sumI (fun k => stx row (timesS O t e k) + (if O.2.1.1 * t ≤ k ∧ k < O.2.1.1 * t + O.2.1.1 then (fun j => stx row (onceS O e j)) (k - O.2.1.1 * t) else 0)) 99 := by
      refine sumI_congr _ (fun k hk => ?_)
      have h9 : timesS O (t + 1) e k = if O.2.1.1 * t ≤ k ∧ k < O.2.1.1 * t + O.2.1.1 then onceS O e (k - O.2.1.1 * t) else timesS O t e k := rfl
      rw [h9]
      by_cases c : O.2.1.1 * t ≤ k ∧ k < O.2.1.1 * t + O.2.1.1
      · rw [if_pos c, if_pos c, timesS_z hO t e k he (Or.inl c.1), stx_0]; exact (Int.zero_add _).symm
      · rw [if_neg c, if_neg c]; omega
    rw [e1, sumI_add, ih (by omega), sumI_shift (fun j => stx row (onceS O e j)) _ _ 99 ht]
    rw [Int.natCast_succ, Int.add_mul, Int.one_mul]
theorem ds_fold {nd : Nd} {e : Nat} (row : Bool) (he : e < 8) : ∀ (ps : List Pt), (∀ P ∈ ps, nrP P) → (foldO (openO nd) ps).2.2.1.2 = false → (foldO (openO nd) ps).2.2.1.1 = 0 → ∀ i, i ≤ ps.length → dsO (foldO (openO nd) (ps.take i)) e row = sumL ((ps.map (fun P => dsP P e row)).take i) := by
  intro ps hn hl ht i
  induction i with
  | zero =>
    intro _
    show sumI (fun k => stx row 0) 99 = sumL []
    rw [sumI_congr (h := fun _ => 0) 99 (fun k _ => stx_0 row), sumI_zero]; rfl
  | succ i ih =>
    intro hi
    obtain ⟨P, hP⟩ : ∃ P, ps[i]? = some P := ⟨_, List.getElem?_eq_getElem (by omega)⟩
    obtain ⟨hlg, hlen1, hco, hso, hub, hzz⟩ := fold_next (nd := nd) hP hn hl ht
    rw [foldO_take hP, dsO_merge hso (hn P (List.mem_of_getElem? hP)).2 hlg hzz he, ih (by omega), sumL_take (v := dsP P e row) (by rw [List.getElem?_map, hP]; rfl)]
theorem n_disp (hG : GKx g) : ∀ (n a : Nat) (l : List Nd), NodeAt h n a l → l.length < 1000000 → (∀ nd ∈ l, ndOk2 nd) → ∀ P : Pt, sem l = .ok P → ∀ (x : Nat) (row : Bool), x < 8 → Kc g (fam_displacement (rootK l)) (6 * n) 0 0 [.ref a, vz ((x : Nat) : Int), vz (bI row)] h (sR (some (vz (dsP P x row))) h) := by
  intro n
  induction n with
  | zero => intro a l H; exact H.elim
  | succ n ih =>
    intro a l H hl hok P hP x row hx
    have hT9 := H.tree
    obtain ⟨nd, cs, as, rfl, e2, e3, e4, e5, e6⟩ := H
    have hcs : ∀ c ∈ cs, TR n c := fun c hc => by
      obtain ⟨i, hi⟩ := List.getElem?_of_mem hc
      have hl2 := (List.getElem?_eq_some_iff.mp hi).1
      exact (e6 i _ c hi (List.getElem?_eq_getElem (by omega : i < as.length))).tree
    have hok2 : ∀ c ∈ cs, ∀ nd ∈ c, ndOk2 nd := fun c hc x hx => hok x (List.mem_cons_of_mem _ (List.mem_flatten.mpr ⟨c, hc, hx⟩))
    have hlc : ∀ c ∈ cs, c.length < 1000000 := fun c hc => by have := flat_mem hc; simp only [List.length_cons] at hl; omega
    have hkids := kids_ok e2 e3 hcs hP
    have hm : ∀ c ∈ cs, sem c = .ok (mean c) := fun c hc2 => by obtain ⟨Q, hQ⟩ := hkids c hc2; rw [mean_of hQ]; exact hQ
    have hnr : ∀ c ∈ cs, nrP (mean c) := fun c hc => nrP_sem n c _ (hcs c hc) (hok2 c hc) (hm c hc)
    have h99 : ∀ c ∈ cs, lenV c = (mean c).1.1 ∧ (mean c).1.1 ≤ 99 := fun c hc => len_ok n c (hcs c hc) (hok2 c hc) _ (hm c hc)
    have hal : as.length < 1000000 := ndC.len (a := a) (nd := nd) e4 e6 hl
    have ho := hok nd List.mem_cons_self
    have hnP := nrP_sem (n + 1) _ P hT9 hok hP
    have hP99 := (len_ok (n + 1) _ hT9 hok P hP).2
    show Kc g (fam_displacement nd.1) _ 0 0 _ h _
    by_cases h2 : nd.1 ≤ 2
    · have hc0 := e3.mp h2
      have ha0 : as = [] := List.eq_nil_of_length_eq_zero (by rw [e4, hc0]; rfl)
      subst hc0
      rw [ha0] at e5
      rw [sem_node e2 hcs] at hP
      unfold semA at hP
      rw [if_pos h2] at hP
      unfold leafE at hP
      by_cases q2 : nd.1 = 2
      · rw [if_pos q2] at hP
        cases hP
        have ef : fam_displacement nd.1 = mX12_displacement := by rw [q2]; rfl
        rw [ef]
        have ez : dsP ((0, 0, 1, 1), fun _ _ => 0, fun k => if k = 0 then 1 else 0) x row = 0 := by
          unfold dsP
          rw [sumI_congr (h := fun _ => 0) 99 (fun k _ => stx_0 row), sumI_zero]
        rw [ez]
        exact k_ds12
      · rw [if_neg q2] at hP
        split at hP
        · cases hP
        · rename_i ht
          split at hP
          · cases hP
          · rename_i hlz
            cases hP
            have ef : fam_displacement nd.1 = mX13_displacement := by
              obtain ⟨k, rr⟩ := nd
              match k, h2, q2 with
              | 0, _, _ => rfl
              | 1, _, _ => rfl
              | 2, _, q => exact absurd rfl q
            rw [ef]
            have hk1 := ho.1.2.2.2 (by omega)
            have ez := ds_leaf (off := offN nd) (dl := nd.2.2.2.1) (sl := nd.2.2.2.2) (x := x) row (by omega) (by show lsz nd ≤ 99; omega) (mem_lt hk1.2.2.1) hx
            show Kc g _ _ 0 0 _ h (sR (some (vz (sumI (fun k => stx row (lst (offN nd) nd.2.2.2.1 nd.2.2.2.2 nd.2.2.2.1.length x k)) 99))) h)
            rw [ez]
            exact k_ds13 hG e5 (by omega) ho hx (by omega)
    · by_cases h5 : nd.1 ≤ 5
      · have one : ∃ p c, as = [p] ∧ cs = [c] := by
          have hl1 : cs.length = 1 := by rw [← e2]; exact ho.2.1 (by omega) h5
          obtain ⟨c, hc⟩ := List.length_eq_one_iff.mp hl1
          obtain ⟨p, hp⟩ := List.length_eq_one_iff.mp (e4.trans hl1)
          exact ⟨p, c, hp, hc⟩
        obtain ⟨p, c, rfl, rfl⟩ := one
        have hc1 : nd.2.2.1 = 1 := e2
        have hTc := hcs c List.mem_cons_self
        have hPc := hm c List.mem_cons_self
        have hN := e6 0 p c rfl rfl
        have hk := ih p c hN (hlc c List.mem_cons_self) (hok2 c List.mem_cons_self) _ hPc x row hx
        have h4s := st4_sem n c hTc (hok2 c List.mem_cons_self) _ hPc
        obtain ⟨hl1, hl2⟩ := h99 c List.mem_cons_self
        have hn1 := hnr c List.mem_cons_self
        have hQ : sem (nd :: c) = .ok P := by rw [← hP, List.flatten_singleton]
        obtain ⟨s1, s2, s3, s4⟩ := single_pt hc1 (by omega) hTc hPc hl2 hQ
        obtain ⟨m1, m2, m3, m4⟩ := merge_open (nd := nd) (P := mean c) (by omega) hl2
        have ms : (mergeO (openO nd) (mean c)).2.1.1 = (mean c).1.1 := by rw [m1]
        have mu : (mergeO (openO nd) (mean c)).2.1.2.1 = (mean c).1.2.1 := by rw [m1]
        have hst := fun k => open_steps (nd := nd) (by omega) hl2 hn1.2 hx k
        have hso : sOk (mergeO (openO nd) (mean c)).2.1.1 (mergeO (openO nd) (mean c)).2.1.2.1 (mergeO (openO nd) (mean c)).2.2.2.1 := by
          intro e k he hk9
          rw [open_steps (nd := nd) (by omega) hl2 hn1.2 he]
          rw [ms, mu] at hk9
          exact hn1.2 e k he hk9
        have hsum : sumI (fun k => stx row ((mean c).2.1 x k)) (mean c).1.1 = dsP (mean c) x row := by rw [dsP_eq hn1 hl2 hx, mvS_sum]
        have hd9 : dsP P x row = ((((if nd.1 = 3 then nd.2.1 else 1) : Nat)) : Int) * sumI (fun k => stx row (onceS (mergeO (openO nd) (mean c)) x k)) (mean c).1.1 := by
          unfold dsP
          rw [s3, ds_times row hx hso _ (by rw [ms, ← s1]; exact hP99), ms]
        by_cases q3 : nd.1 = 3
        · have ef : fam_displacement nd.1 = mX10_displacement := by rw [q3]; rfl
          rw [ef]
          obtain ⟨p', hp', f1⟩ := e5.2.2.1 q3
          cases hp'
          have ez : dsP P x row = ((nd.2.1 : Nat) : Int) * dsP (mean c) x row := by
            rw [hd9, if_pos q3, ← hsum]
            exact congrArg (fun z : Int => ((nd.2.1 : Nat) : Int) * z) (sumI_congr _ (fun k hk => by unfold onceS; rw [m3, if_neg (show ¬ nd.1 = 5 by omega), if_neg (fun q => by omega), hst]))
          rw [ez]
          exact k_ds10 hG f1 hN.cls hk (by omega)
        · by_cases q4 : nd.1 = 4
          · have ef : fam_displacement nd.1 = mX14_displacement := by rw [q4]; rfl
            rw [ef]
            obtain ⟨p', hp', f1⟩ := e5.2.2.2.1 q4
            cases hp'
            have ez : dsP P x row = if row then dsP (mean c) x row else -dsP (mean c) x row := by
              rw [hd9, if_neg q3, ← hsum]
              have e1 : sumI (fun k => stx row (onceS (mergeO (openO nd) (mean c)) x k)) (mean c).1.1 = sumI (fun k => if row then stx row ((mean c).2.1 x k) else -stx row ((mean c).2.1 x k)) (mean c).1.1 := sumI_congr _ (fun k hk => by
                unfold onceS
                rw [m3, if_neg (show ¬ nd.1 = 5 by omega), hst]
                rw [← stx_m (h4s x k)]
                unfold mirN
                by_cases c2 : (mean c).2.1 x k > 2
                · rw [if_pos ⟨q4, c2⟩, if_pos c2]
                · rw [if_neg (fun q => c2 q.2), if_neg c2])
              rw [e1]
              cases row with
              | true => simp
              | false => simp only [Bool.false_eq_true, if_false]; rw [sumI_neg]; omega
            rw [ez]
            exact k_ds14 hG f1 hN.cls hk (by omega)
          · have q5 : nd.1 = 5 := by omega
            have ef : fam_displacement nd.1 = mX15_displacement := by rw [q5]; rfl
            rw [ef]
            obtain ⟨p', hp', f1⟩ := e5.2.2.2.2.1 q5
            cases hp'
            have ez : dsP P x row = -dsP (mean c) x row := by
              rw [hd9, if_neg q3, ← hsum, ← sumI_rev _ (fun k => stx row ((mean c).2.1 x k)), ← sumI_neg]
              have e1 : sumI (fun k => stx row (onceS (mergeO (openO nd) (mean c)) x k)) (mean c).1.1 = sumI (fun k => -stx row ((mean c).2.1 x ((mean c).1.1 - 1 - k))) (mean c).1.1 := sumI_congr _ (fun k hk => by
                unfold onceS
                rw [m3, if_pos q5, ms, hst, stx_t (h4s x _)])
              rw [e1]; omega
            rw [ez]
            exact k_ds15 hG f1 hN.cls hk (by omega)
      · have hP0 := hP
        rw [sem_node e2 hcs] at hP
        unfold semA at hP
        rw [if_neg h2] at hP
        unfold closeV at hP
        rw [foldE_foldO cs _ hm] at hP
        have hP1 : closeE (foldO (openO nd) (cs.map mean)) = .ok P := hP
        obtain ⟨c1, c2, c3, c4, c5⟩ := closeE_ok hP1
        have hkd : (foldO (openO nd) (cs.map mean)).1.1 = nd.1 := by
          have : ∀ (ps : List Pt) (O : Op), (foldO O ps).1.1 = O.1.1 := fun ps => by
            induction ps with
            | nil => intro O; rfl
            | cons P t ih => intro O; exact ih _
          exact this _ _
        have hnm : ∀ Q ∈ cs.map mean, nrP Q := fun Q hQ => by obtain ⟨c, hc, rfl⟩ := List.mem_map.mp hQ; exact hnr c hc
        have ct : cTimes (foldO (openO nd) (cs.map mean)) = 1 := by unfold cTimes; exact if_neg (by rw [hkd]; omega)
        have hnO := (nrO_fold (cs.map mean) (openO nd) (nrO_open nd) hnm) c2
        have hz9 : (foldO (openO nd) (cs.map mean)).2.1.1 ≤ 99 := by rw [ct, Nat.mul_one] at c3; exact c3
        have ez : dsP P x row = sumL ((cs.map mean).map (fun P => dsP P x row)) := by
          have h1 := ds_fold row hx (cs.map mean) hnm c2 c1 (cs.map mean).length (Nat.le_refl _)
          rw [List.take_length, List.take_of_length_le (by simp)] at h1
          rw [← h1]
          unfold dsP dsO
          rw [c5, ct]
          show sumI (fun k => stx row (timesS (foldO (openO nd) (cs.map mean)) 1 x k)) 99 = _
          rw [ds_times row hx hnO.2 1 (by omega)]
          rw [sumI_ext (f := fun k => stx row ((foldO (openO nd) (cs.map mean)).2.2.2.1 x k)) (n := (foldO (openO nd) (cs.map mean)).2.1.1) (fun k hk => by rw [hnO.2 x k hx (Or.inl hk), stx_0]) 99 hz9]
          have e1 : sumI (fun k => stx row (onceS (foldO (openO nd) (cs.map mean)) x k)) (foldO (openO nd) (cs.map mean)).2.1.1 = sumI (fun k => stx row ((foldO (openO nd) (cs.map mean)).2.2.2.1 x k)) (foldO (openO nd) (cs.map mean)).2.1.1 := sumI_congr _ (fun k hk => by
            unfold onceS
            rw [hkd, if_neg (show ¬ nd.1 = 5 by omega), if_neg (fun q => by omega)])
          rw [e1]; omega
        rw [ez]
        have ef : fam_displacement nd.1 = mX16_displacement := by
          obtain ⟨k, rr⟩ := nd
          match k, h5 with
          | 0, h | 1, h | 2, h | 3, h | 4, h | 5, h => exact absurd (by simp) h
          | k + 6, _ => rfl
        rw [ef]
        obtain ⟨pl, v', cp, mc, f, f1, f2, f3, f4, f5⟩ := e5.2.2.2.2.2 (by omega)
        refine k_ds16 (D := 6 * n) hG f1 f2 f3 f4 f5 hal (by rw [List.length_map, List.length_map]; exact e4.symm) (fun i q w hq hw => ?_) (by omega)
        rw [List.getElem?_map, List.getElem?_map] at hw
        cases hci : cs[i]? with
        | none => rw [hci] at hw; cases hw
        | some c =>
          rw [hci] at hw
          have hwe : dsP (mean c) x row = w := Option.some.inj hw
          subst hwe
          have hcm := List.mem_of_getElem? hci
          exact ⟨rootK c, (e6 i q c hci hq).cls, ih q c (e6 i q c hci hq) (hlc c hcm) (hok2 c hcm) _ (hm c hcm) x row hx⟩
end S0S

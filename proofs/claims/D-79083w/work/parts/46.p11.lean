/-! the reference: it writes a leaf (printed by gen) -/
section P11
variable {g : GB} {M : MI} {d c k : Nat} {Q : RS → HM → Prop} {pc : Nat} {ls : List (Option Value)} {st : List Value} {h : HM} {a b : Int} {ad : Nat → Nat} {o : Nat} {h0 : HM} {s : MSt}
theorem take_map_succ {f : Nat → Nat} {ds : List Nat} {i : Nat} (hi : i < ds.length) : (ds.take (i + 1)).map f = (ds.take i).map f ++ [f (ds.getD i 0)] := by
  rw [List.take_add_one, List.getElem?_eq_getElem hi, List.map_append, List.getD_eq_getElem?_getD, List.getElem?_eq_getElem hi]
  rfl
set_option maxRecDepth 100000 in
set_option maxHeartbeats 4000000 in
theorem k_writesLeaf {n : Nat} {nd : Nd} {u : List Nat} (hM : MX g ad o h0 s h) (hn : n < 1100) (hA : ndAt (s.2 1) n nd) (hO : ndOk nd) (h2 : nd.1 ≤ 2) (hu : ouAt s u) (hl : (u ++ leafT nd).length ≤ 12000) (hd : 3 ≤ d) : Kc g mX3_writesLeaf d 0 0 [.ref o, vz (n : Int)] h (mP g ad o h0 (fun v s' => v = none ∧ fr s s' [13] [12] ∧ ouAt s' (u ++ leafT nd))) := by
  refine Kc.of (ls := [some (.ref o), some (vz (n : Int)), none]) (by decide +kernel) (Nat.le_of_ble_eq_true rfl) rfl ?_
  refine ev_aload_n dX3_writesLeaf_0 rfl ?_
  refine ev_iload_n dX3_writesLeaf_1 rfl ?_
  refine mx_call dX3_writesLeaf_2 cv_X3_162_X3 ce_X3_kind hM rfl rfl (k_kindN (n := n) (x := (nd.1 : Int)) (d := d - 1) (by omega) hM (by omega) hA.1) (by omega) (Nat.le_of_ble_eq_true rfl) (fun h hM => ?_)
  refine ev_iconstZ dX3_writesLeaf_5 ?_
  refine ev_icmp_neZ (tgt := 16) dX3_writesLeaf_6 (by decide) (by omega) (by omega) (fun c6 => ?_) (fun c6 => ?_)
  · have hk2 : ¬ nd.1 = 2 := fun q => c6 (by omega)
    have hk1 : nd.1 ≤ 1 := by omega
    obtain ⟨p, hp1, hp2, hp3, hp4, hp5, hp6⟩ := hA.2.2.2 hk1
    obtain ⟨hd1, hd2, hd8, hst4⟩ := hO.2.2.2 hk1
    have hlen : (u ++ (if nd.1 = 1 then [99, 48 + nd.2.1] else []) ++ nd.2.2.2.1.map (65 + ·) ++ [58] ++ nd.2.2.2.2.map sgN).length ≤ 12000 := by have := hl; unfold leafT at this; rw [if_neg hk2] at this; simp only [List.length_append] at this ⊢; omega
    have T44 : ∀ (s1 : MSt) (h : HM), MX g ad o h0 s1 h → fr s s1 [13] [12] → ouAt s1 (u ++ (if nd.1 = 1 then [99, 48 + nd.2.1] else [])) → Ev g mX3_writesLeaf d 0 0 (mP g ad o h0 (fun v s' => v = none ∧ fr s s' [13] [12] ∧ ouAt s' (u ++ leafT nd))) 44 [some (.ref o), some (vz (n : Int)), none] [] h := by
      intro s1 h hM hf1 hu1
      have e1 : s1.2 1 = s.2 1 := hf1.2 1 (by decide)
      refine ev_iconstZ dX3_writesLeaf_44 ?_
      refine ev_istore_n dX3_writesLeaf_45 (by decide) rfl ?_
      dsimp only [List.set]
      refine ev_for nd.2.2.2.1.length (fun i h => ∃ s1 : MSt, MX g ad o h0 s1 h ∧ fr s s1 [13] [12] ∧ ouAt s1 (u ++ (if nd.1 = 1 then [99, 48 + nd.2.1] else []) ++ (nd.2.2.2.1.take i).map (65 + ·))) (fun i => [some (.ref o), some (vz (n : Int)), some (vz (i : Int))]) 0 (by omega) ⟨s1, hM, hf1, by rw [List.take_zero, List.map_nil, List.append_nil]; exact hu1⟩ (by repeat' first | exact rfl | exact trivial | exact vz_eq (by omega) | refine And.intro ?_ ?_) (fun i h hi1 hi2 hX hN => ?_) (fun h hX => ?_)
      · clear hM hf1 hu1 e1
        obtain ⟨s1, hM, hf1, hu1⟩ := hX
        have e1 : s1.2 1 = s.2 1 := hf1.2 1 (by decide)
        refine ev_iload_n dX3_writesLeaf_46 rfl ?_
        refine ev_aload_n dX3_writesLeaf_47 rfl ?_
        refine ev_iload_n dX3_writesLeaf_48 rfl ?_
        refine ev_iconstZ dX3_writesLeaf_49 ?_
        refine mx_call dX3_writesLeaf_50 cv_X3_133_X3 ce_X3_of hM rfl rfl (k_ofN (n := n) (w := 4) (x := (nd.2.2.2.1.length : Int)) (d := d - 1) (by omega) hM (by omega) (by rw [e1]; exact hp2)) (by omega) (Nat.le_of_ble_eq_true rfl) (fun h hM => ?_)
        refine ev_icmp_geZ (tgt := 81) dX3_writesLeaf_53 (by decide) (by omega) (by omega) (fun c => absurd c (by omega)) (fun _ => ?_)
        refine ev_aload_n dX3_writesLeaf_56 rfl ?_
        refine ev_bipushZ dX3_writesLeaf_57 rfl ?_
        refine ev_aload_n dX3_writesLeaf_59 rfl ?_
        refine ev_aload_n dX3_writesLeaf_60 rfl ?_
        refine ev_iload_n dX3_writesLeaf_61 rfl ?_
        refine ev_iconstZ dX3_writesLeaf_62 ?_
        refine mx_call dX3_writesLeaf_63 cv_X3_133_X3 ce_X3_of hM rfl rfl (k_ofN (n := n) (w := 3) (x := (p : Int)) (d := d - 1) (by omega) hM (by omega) (by rw [e1]; exact hp1)) (by omega) (Nat.le_of_ble_eq_true rfl) (fun h hM => ?_)
        refine ev_iload_n dX3_writesLeaf_66 rfl ?_
        refine ev_iaddZ dX3_writesLeaf_67 ?_
        refine ev_to (b := ((p + i : Nat) : Int)) (by omega) ?_
        refine mx_call dX3_writesLeaf_68 cv_X3_165_X3 ce_X3_data hM rfl rfl (k_dataN (n := p + i) (x := (nd.2.2.2.1.getD i 0 : Int)) (d := d - 1) (by omega) hM (by omega) (by rw [e1]; exact hp5 i hi2)) (by omega) (Nat.le_of_ble_eq_true rfl) (fun h hM => ?_)
        refine ev_iaddZ dX3_writesLeaf_71 ?_
        refine ev_to (b := ((65 + nd.2.2.2.1.getD i 0 : Nat) : Int)) (by omega) ?_
        refine mx_callP dX3_writesLeaf_72 cv_X3_291_X3 ce_X3_writes hM rfl rfl (k_writes (u := u ++ (if nd.1 = 1 then [99, 48 + nd.2.1] else []) ++ (nd.2.2.2.1.take i).map (65 + ·)) (c1 := 65 + nd.2.2.2.1.getD i 0) hM hu1 (by have := hlen; simp only [List.length_append, List.length_map, List.length_take, List.length_singleton] at this ⊢; omega) (by have := hd8 i hi2; omega) (d := d - 1) (by omega)) (by omega) (Nat.le_of_ble_eq_true rfl) (fun v s2 h hP hM => ?_)
        obtain ⟨rfl, f2, hu2⟩ := hP
        refine ev_iincZ dX3_writesLeaf_75 rfl (by decide) rfl ?_
        dsimp only [List.set]
        refine ev_goto (tgt := 46) dX3_writesLeaf_78 (by decide) ?_
        exact hN _ _ (by repeat' first | exact rfl | exact trivial | exact vz_eq (by omega) | refine And.intro ?_ ?_) ⟨s2, hM, hf1.trans f2, by rw [take_map_succ hi2, ← List.append_assoc]; exact hu2⟩
      · clear hM hf1 hu1 e1
        obtain ⟨s1, hM, hf1, hu1⟩ := hX
        have e1 : s1.2 1 = s.2 1 := hf1.2 1 (by decide)
        refine ev_iload_n dX3_writesLeaf_46 rfl ?_
        refine ev_aload_n dX3_writesLeaf_47 rfl ?_
        refine ev_iload_n dX3_writesLeaf_48 rfl ?_
        refine ev_iconstZ dX3_writesLeaf_49 ?_
        refine mx_call dX3_writesLeaf_50 cv_X3_133_X3 ce_X3_of hM rfl rfl (k_ofN (n := n) (w := 4) (x := (nd.2.2.2.1.length : Int)) (d := d - 1) (by omega) hM (by omega) (by rw [e1]; exact hp2)) (by omega) (Nat.le_of_ble_eq_true rfl) (fun h hM => ?_)
        refine ev_icmp_geZ (tgt := 81) dX3_writesLeaf_53 (by decide) (by omega) (by omega) (fun _ => ?_) (fun c => absurd (by omega) c)
        refine ev_aload_n dX3_writesLeaf_81 rfl ?_
        refine ev_bipushZ dX3_writesLeaf_82 rfl ?_
        refine mx_callP dX3_writesLeaf_84 cv_X3_291_X3 ce_X3_writes hM rfl rfl (k_writes (u := u ++ (if nd.1 = 1 then [99, 48 + nd.2.1] else []) ++ nd.2.2.2.1.map (65 + ·)) (c1 := 58) hM (by rw [List.take_length] at hu1; exact hu1) (by have := hlen; simp only [List.length_append, List.length_map, List.length_singleton] at this ⊢; omega) (by omega) (d := d - 1) (by omega)) (by omega) (Nat.le_of_ble_eq_true rfl) (fun v s2 h hP hM => ?_)
        obtain ⟨rfl, f2, hu2⟩ := hP
        have hf2 := hf1.trans f2
        clear hf1 hu1 e1
        have hf1 := hf2
        have hu1 := hu2
        have e1 : s2.2 1 = s.2 1 := hf1.2 1 (by decide)
        clear f2 hf2 hu2
        refine ev_iconstZ dX3_writesLeaf_87 ?_
        refine ev_istore_n dX3_writesLeaf_88 (by decide) rfl ?_
        dsimp only [List.set]
        refine ev_for nd.2.2.2.2.length (fun i h => ∃ s1 : MSt, MX g ad o h0 s1 h ∧ fr s s1 [13] [12] ∧ ouAt s1 (u ++ (if nd.1 = 1 then [99, 48 + nd.2.1] else []) ++ nd.2.2.2.1.map (65 + ·) ++ [58] ++ (nd.2.2.2.2.take i).map sgN)) (fun i => [some (.ref o), some (vz (n : Int)), some (vz (i : Int))]) 0 (by omega) ⟨s2, hM, hf1, by rw [List.take_zero, List.map_nil, List.append_nil]; exact hu1⟩ (by repeat' first | exact rfl | exact trivial | exact vz_eq (by omega) | refine And.intro ?_ ?_) (fun i h hi1 hi2 hX hN => ?_) (fun h hX => ?_)
        · clear hM hf1 hu1 e1
          obtain ⟨s1, hM, hf1, hu1⟩ := hX
          have e1 : s1.2 1 = s.2 1 := hf1.2 1 (by decide)
          refine ev_iload_n dX3_writesLeaf_89 rfl ?_
          refine ev_aload_n dX3_writesLeaf_90 rfl ?_
          refine ev_iload_n dX3_writesLeaf_91 rfl ?_
          refine ev_iconstZ dX3_writesLeaf_92 ?_
          refine mx_call dX3_writesLeaf_93 cv_X3_133_X3 ce_X3_of hM rfl rfl (k_ofN (n := n) (w := 5) (x := (nd.2.2.2.2.length : Int)) (d := d - 1) (by omega) hM (by omega) (by rw [e1]; exact hp3)) (by omega) (Nat.le_of_ble_eq_true rfl) (fun h hM => ?_)
          refine ev_icmp_geZ (tgt := 131) dX3_writesLeaf_96 (by decide) (by omega) (by omega) (fun c => absurd c (by omega)) (fun _ => ?_)
          refine ev_aload_n dX3_writesLeaf_99 rfl ?_
          refine ev_aload_n dX3_writesLeaf_100 rfl ?_
          refine ev_aload_n dX3_writesLeaf_101 rfl ?_
          refine ev_iload_n dX3_writesLeaf_102 rfl ?_
          refine ev_iconstZ dX3_writesLeaf_103 ?_
          refine mx_call dX3_writesLeaf_104 cv_X3_133_X3 ce_X3_of hM rfl rfl (k_ofN (n := n) (w := 3) (x := (p : Int)) (d := d - 1) (by omega) hM (by omega) (by rw [e1]; exact hp1)) (by omega) (Nat.le_of_ble_eq_true rfl) (fun h hM => ?_)
          refine ev_aload_n dX3_writesLeaf_107 rfl ?_
          refine ev_iload_n dX3_writesLeaf_108 rfl ?_
          refine ev_iconstZ dX3_writesLeaf_109 ?_
          refine mx_call dX3_writesLeaf_110 cv_X3_133_X3 ce_X3_of hM rfl rfl (k_ofN (n := n) (w := 4) (x := (nd.2.2.2.1.length : Int)) (d := d - 1) (by omega) hM (by omega) (by rw [e1]; exact hp2)) (by omega) (Nat.le_of_ble_eq_true rfl) (fun h hM => ?_)
          refine ev_iaddZ dX3_writesLeaf_113 ?_
          refine ev_iload_n dX3_writesLeaf_114 rfl ?_
          refine ev_iaddZ dX3_writesLeaf_115 ?_
          refine ev_to (b := ((p + nd.2.2.2.1.length + i : Nat) : Int)) (by omega) ?_
          refine mx_call dX3_writesLeaf_116 cv_X3_165_X3 ce_X3_data hM rfl rfl (k_dataN (n := p + nd.2.2.2.1.length + i) (x := (nd.2.2.2.2.getD i 0 : Int)) (d := d - 1) (by omega) hM (by omega) (by rw [e1]; exact hp6 i hi2)) (by omega) (Nat.le_of_ble_eq_true rfl) (fun h hM => ?_)
          refine ev_callSE dX3_writesLeaf_119 cs_X3_294 ce_X3_signOf rfl rfl (k_signOf (n := nd.2.2.2.2.getD i 0) (d := d - 1) (hst4 i hi2) (by omega)) (by omega) (Nat.le_of_ble_eq_true rfl) ?_
          rw [sgn_N (hst4 i hi2)]
          refine mx_callP dX3_writesLeaf_122 cv_X3_291_X3 ce_X3_writes hM rfl rfl (k_writes (u := u ++ (if nd.1 = 1 then [99, 48 + nd.2.1] else []) ++ nd.2.2.2.1.map (65 + ·) ++ [58] ++ (nd.2.2.2.2.take i).map sgN) (c1 := sgN (nd.2.2.2.2.getD i 0)) hM hu1 (by have := hlen; simp only [List.length_append, List.length_map, List.length_take, List.length_singleton] at this ⊢; omega) sgN_lt (d := d - 1) (by omega)) (by omega) (Nat.le_of_ble_eq_true rfl) (fun v s2 h hP hM => ?_)
          obtain ⟨rfl, f2, hu2⟩ := hP
          refine ev_iincZ dX3_writesLeaf_125 rfl (by decide) rfl ?_
          dsimp only [List.set]
          refine ev_goto (tgt := 89) dX3_writesLeaf_128 (by decide) ?_
          exact hN _ _ (by repeat' first | exact rfl | exact trivial | exact vz_eq (by omega) | refine And.intro ?_ ?_) ⟨s2, hM, hf1.trans f2, by rw [take_map_succ hi2, ← List.append_assoc]; exact hu2⟩
        · clear hM hf1 hu1 e1
          obtain ⟨s1, hM, hf1, hu1⟩ := hX
          have e1 : s1.2 1 = s.2 1 := hf1.2 1 (by decide)
          refine ev_iload_n dX3_writesLeaf_89 rfl ?_
          refine ev_aload_n dX3_writesLeaf_90 rfl ?_
          refine ev_iload_n dX3_writesLeaf_91 rfl ?_
          refine ev_iconstZ dX3_writesLeaf_92 ?_
          refine mx_call dX3_writesLeaf_93 cv_X3_133_X3 ce_X3_of hM rfl rfl (k_ofN (n := n) (w := 5) (x := (nd.2.2.2.2.length : Int)) (d := d - 1) (by omega) hM (by omega) (by rw [e1]; exact hp3)) (by omega) (Nat.le_of_ble_eq_true rfl) (fun h hM => ?_)
          refine ev_icmp_geZ (tgt := 131) dX3_writesLeaf_96 (by decide) (by omega) (by omega) (fun _ => ?_) (fun c => absurd (by omega) c)
          refine ev_return dX3_writesLeaf_131 rfl ?_
          refine ⟨none, _, rfl, ⟨rfl, hf1, ?_⟩, hM⟩
          rw [List.take_length] at hu1
          unfold leafT
          rw [if_neg hk2]
          simp only [← List.append_assoc] at hu1 ⊢
          exact hu1
    refine ev_aload_n dX3_writesLeaf_16 rfl ?_
    refine ev_iload_n dX3_writesLeaf_17 rfl ?_
    refine mx_call dX3_writesLeaf_18 cv_X3_162_X3 ce_X3_kind hM rfl rfl (k_kindN (n := n) (x := (nd.1 : Int)) (d := d - 1) (by omega) hM (by omega) hA.1) (by omega) (Nat.le_of_ble_eq_true rfl) (fun h hM => ?_)
    refine ev_iconstZ dX3_writesLeaf_21 ?_
    refine ev_icmp_neZ (tgt := 44) dX3_writesLeaf_22 (by decide) (by omega) (by omega) (fun c22 => ?_) (fun c22 => ?_)
    · exact Ev.forget (T44 s h hM (fr.refl _ _ _) (by rw [if_neg (by omega), List.append_nil]; exact hu)) (by repeat' first | exact rfl | exact trivial | exact vz_eq (by omega) | refine And.intro ?_ ?_)
    · have hk11 : nd.1 = 1 := by omega
      have ep : (if nd.1 = 1 then [99, 48 + nd.2.1] else []) = [99, 48 + nd.2.1] := if_pos hk11
      refine ev_aload_n dX3_writesLeaf_25 rfl ?_
      refine ev_bipushZ dX3_writesLeaf_26 rfl ?_
      refine mx_callP dX3_writesLeaf_28 cv_X3_291_X3 ce_X3_writes hM rfl rfl (k_writes (u := u) (c1 := 99) hM hu (by rw [ep] at hlen; simp only [List.length_append, List.length_cons] at hlen; omega) (by omega) (d := d - 1) (by omega)) (by omega) (Nat.le_of_ble_eq_true rfl) (fun v s2 h hP hM => ?_)
      obtain ⟨rfl, f2, hu2⟩ := hP
      refine ev_aload_n dX3_writesLeaf_31 rfl ?_
      refine ev_bipushZ dX3_writesLeaf_32 rfl ?_
      refine ev_aload_n dX3_writesLeaf_34 rfl ?_
      refine ev_iload_n dX3_writesLeaf_35 rfl ?_
      refine ev_iconstZ dX3_writesLeaf_36 ?_
      refine mx_call dX3_writesLeaf_37 cv_X3_133_X3 ce_X3_of hM rfl rfl (k_ofN (n := n) (w := 1) (x := (nd.2.1 : Int)) (d := d - 1) (by omega) hM (by omega) (by rw [f2.2 1 (by decide)]; exact hA.2.1)) (by omega) (Nat.le_of_ble_eq_true rfl) (fun h hM => ?_)
      refine ev_iaddZ dX3_writesLeaf_40 ?_
      refine ev_to (b := ((48 + nd.2.1 : Nat) : Int)) (by omega) ?_
      refine mx_callP dX3_writesLeaf_41 cv_X3_291_X3 ce_X3_writes hM rfl rfl (k_writes (u := u ++ [99]) (c1 := 48 + nd.2.1) hM hu2 (by rw [ep] at hlen; simp only [List.length_append, List.length_cons] at hlen ⊢; simp at hlen ⊢; omega) (by have := hO.2.1; omega) (d := d - 1) (by omega)) (by omega) (Nat.le_of_ble_eq_true rfl) (fun v s3 h hP hM => ?_)
      obtain ⟨rfl, f3, hu3⟩ := hP
      exact Ev.forget (T44 s3 h hM (f2.trans f3) (by rw [ep]; rw [List.append_assoc] at hu3; exact hu3)) (by repeat' first | exact rfl | exact trivial | exact vz_eq (by omega) | refine And.intro ?_ ?_)
  · have hk2 : nd.1 = 2 := by omega
    have eL : leafT nd = [33] := by unfold leafT; rw [if_pos hk2]
    refine ev_aload_n dX3_writesLeaf_9 rfl ?_
    refine ev_bipushZ dX3_writesLeaf_10 rfl ?_
    refine mx_callP dX3_writesLeaf_12 cv_X3_291_X3 ce_X3_writes hM rfl rfl (k_writes (u := u) (c1 := 33) hM hu (by rw [eL] at hl; simp at hl; omega) (by omega) (d := d - 1) (by omega)) (by omega) (Nat.le_of_ble_eq_true rfl) (fun v s2 h hP hM => ?_)
    obtain ⟨rfl, f2, hu2⟩ := hP
    refine ev_return dX3_writesLeaf_15 rfl ?_
    exact ⟨none, _, rfl, ⟨rfl, f2, by rw [eL]; exact hu2⟩, hM⟩
end P11

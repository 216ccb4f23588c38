/-! the reference: open parts (printed by gen) -/
section M4
variable {g : GB} {M : MI} {d c k : Nat} {Q : RS → HM → Prop} {pc : Nat} {ls : List (Option Value)} {st : List Value} {h : HM} {a b : Int} {ad : Nat → Nat} {o : Nat} {h0 : HM} {s : MSt}
def opAt (s : MSt) (i : Nat) (O : Op) : Prop := s.2 24 i = O.1.1 ∧ s.2 25 i = O.1.2.1 ∧ s.2 26 i = O.1.2.2 ∧ s.2 27 i = O.2.1.1 ∧ s.2 28 i = O.2.1.2.1 ∧ s.2 29 i = O.2.1.2.2.1 ∧ s.2 30 i = O.2.1.2.2.2 ∧ s.2 31 i = O.2.2.1.1 ∧ s.2 32 i = bI O.2.2.1.2 ∧ (∀ e q : Nat, e < 8 → q < 100 → s.2 33 (800 * i + 100 * e + q) = O.2.2.2.1 e q) ∧ ∀ q : Nat, q < 100 → s.2 34 (100 * i + q) = O.2.2.2.2 q
/-- the open parts but one are as before -/
def opFr (s s' : MSt) (o : Nat) : Prop := (∀ j, j ∈ [24, 25, 26, 27, 28, 29, 30, 31, 32] → ∀ i, i ≠ o → s'.2 j i = s.2 j i) ∧ (∀ x : Nat, x < 800 * o ∨ 800 * o + 800 ≤ x → s'.2 33 x = s.2 33 x) ∧ ∀ x : Nat, x < 100 * o ∨ 100 * o + 100 ≤ x → s'.2 34 x = s.2 34 x
theorem opFr.at {s s' : MSt} {o i : Nat} {O : Op} (h : opFr s s' o) (hi : i ≠ o) (hO : opAt s i O) : opAt s' i O := by
  obtain ⟨h1, h2, h3⟩ := h
  obtain ⟨q24, q25, q26, q27, q28, q29, q30, q31, q32, q33, q34⟩ := hO
  refine ⟨by rw [h1 24 (by simp) i hi, q24], by rw [h1 25 (by simp) i hi, q25], by rw [h1 26 (by simp) i hi, q26], by rw [h1 27 (by simp) i hi, q27], by rw [h1 28 (by simp) i hi, q28], by rw [h1 29 (by simp) i hi, q29], by rw [h1 30 (by simp) i hi, q30], by rw [h1 31 (by simp) i hi, q31], by rw [h1 32 (by simp) i hi, q32], fun e q he hq => ?_, fun q hq => ?_⟩
  · rw [h2 _ (by omega), q33 e q he hq]
  · rw [h3 _ (by omega), q34 q hq]
theorem opFr.trans {s s1 s2 : MSt} {o : Nat} (a : opFr s s1 o) (b : opFr s1 s2 o) : opFr s s2 o := ⟨fun j hj i hi => (b.1 j hj i hi).trans (a.1 j hj i hi), fun x hx => (b.2.1 x hx).trans (a.2.1 x hx), fun x hx => (b.2.2 x hx).trans (a.2.2 x hx)⟩
theorem opAt.fr {s s' : MSt} {i : Nat} {O : Op} {K J : List Nat} (hO : opAt s i O) (h : fr s s' K J) (hJ : [24, 25, 26, 27, 28, 29, 30, 31, 32, 33, 34].all (fun x => ! J.contains x) = true) : opAt s' i O := by
  have key : ∀ j, j ∈ [24, 25, 26, 27, 28, 29, 30, 31, 32, 33, 34] → s'.2 j = s.2 j := fun j hj => h.2 j (by
    have := List.all_eq_true.mp hJ j hj
    simpa using this)
  unfold opAt
  rw [key 24 (by simp), key 25 (by simp), key 26 (by simp), key 27 (by simp), key 28 (by simp), key 29 (by simp), key 30 (by simp), key 31 (by simp), key 32 (by simp), key 33 (by simp), key 34 (by simp)]
  exact hO
theorem ptAt.fr {s s' : MSt} {P : Pt} {K J : List Nat} (hP : ptAt s P) (h : fr s s' K J) (hK : [17, 18, 19, 20].all (fun x => ! K.contains x) = true) (hJ : [21, 22].all (fun x => ! J.contains x) = true) : ptAt s' P := by
  have key : ∀ j, j ∈ [17, 18, 19, 20] → s'.1 j = s.1 j := fun j hj => h.1 j (by
    have := List.all_eq_true.mp hK j hj
    simpa using this)
  have key2 : ∀ j, j ∈ [21, 22] → s'.2 j = s.2 j := fun j hj => h.2 j (by
    have := List.all_eq_true.mp hJ j hj
    simpa using this)
  unfold ptAt
  rw [key 17 (by simp), key 18 (by simp), key 19 (by simp), key 20 (by simp), key2 21 (by simp), key2 22 (by simp)]
  exact hP
theorem bI_z : bI false = 0 := rfl
theorem bI_o' : bI true = 1 := rfl
set_option maxRecDepth 100000 in
set_option maxHeartbeats 4000000 in
theorem k_opens {n o1 : Nat} {nd : Nd} (hM : MX g ad o h0 s h) (hn : n < 1100) (hA : ndAt (s.2 1) n nd) (ho : o1 < 80) (h23 : s.1 23 = (o1 : Int)) (hd : 3 ≤ d) : Kc g mX3_opens d 0 0 [.ref o, vz (n : Int)] h (mP g ad o h0 (fun v s' => v = none ∧ fr s s' [23] [24, 25, 26, 27, 28, 29, 30, 31, 32, 33, 34] ∧ s'.1 23 = (o1 : Int) + 1 ∧ opAt s' o1 (openO nd) ∧ opFr s s' o1)) := by
  refine Kc.of (ls := [some (.ref o), some (vz (n : Int)), none]) (by decide +kernel) (Nat.le_of_ble_eq_true rfl) rfl ?_
  refine ev_aload_n dX3_opens_0 rfl ?_
  refine mx_getA hM dX3_opens_1 gf_X3_42_X3 rfl ?_
  refine ev_aload_n dX3_opens_4 rfl ?_
  refine mx_getI hM dX3_opens_5 gf_X3_174_X3 rfl ?_
  rw [h23]
  refine ev_aload_n dX3_opens_8 rfl ?_
  refine ev_iload_n dX3_opens_9 rfl ?_
  refine mx_call dX3_opens_10 cv_X3_162_X3 ce_X3_kind hM rfl rfl (k_kindN (n := n) (x := (nd.1 : Int)) (d := d - 1) (by omega) hM (by omega) (by exact hA.1)) (by omega) (Nat.le_of_ble_eq_true rfl) (fun h hM => ?_)
  refine mx_iast hM rfl dX3_opens_13 (by omega) (fun h hM => ?_)
  refine ev_aload_n dX3_opens_14 rfl ?_
  refine mx_getA hM dX3_opens_15 gf_X3_45_X3 rfl ?_
  refine ev_aload_n dX3_opens_18 rfl ?_
  refine mx_getI hM dX3_opens_19 gf_X3_174_X3 rfl ?_
  try simp only [uS_1, uA_1, uF_1, uS_2, uA_2a, uF_2a, Nat.reduceEqDiff, reduceIte, Int.reduceToNat, Int.toNat_natCast]
  rw [h23]
  refine ev_aload_n dX3_opens_22 rfl ?_
  refine ev_iload_n dX3_opens_23 rfl ?_
  refine ev_iconstZ dX3_opens_24 ?_
  refine mx_call dX3_opens_25 cv_X3_133_X3 ce_X3_of hM rfl rfl (k_ofN (n := n) (w := 1) (x := (nd.2.1 : Int)) (d := d - 1) (by omega) hM (by omega) (by simp only [uA_2a, Nat.reduceEqDiff, reduceIte]; exact hA.2.1)) (by omega) (Nat.le_of_ble_eq_true rfl) (fun h hM => ?_)
  refine mx_iast hM rfl dX3_opens_28 (by omega) (fun h hM => ?_)
  refine ev_aload_n dX3_opens_29 rfl ?_
  refine mx_getA hM dX3_opens_30 gf_X3_48_X3 rfl ?_
  refine ev_aload_n dX3_opens_33 rfl ?_
  refine mx_getI hM dX3_opens_34 gf_X3_174_X3 rfl ?_
  try simp only [uS_1, uA_1, uF_1, uS_2, uA_2a, uF_2a, Nat.reduceEqDiff, reduceIte, Int.reduceToNat, Int.toNat_natCast]
  rw [h23]
  refine ev_aload_n dX3_opens_37 rfl ?_
  refine ev_iload_n dX3_opens_38 rfl ?_
  refine ev_iconstZ dX3_opens_39 ?_
  refine mx_call dX3_opens_40 cv_X3_133_X3 ce_X3_of hM rfl rfl (k_ofN (n := n) (w := 2) (x := (nd.2.2.1 : Int)) (d := d - 1) (by omega) hM (by omega) (by simp only [uA_2a, Nat.reduceEqDiff, reduceIte]; exact hA.2.2.1)) (by omega) (Nat.le_of_ble_eq_true rfl) (fun h hM => ?_)
  refine mx_iast hM rfl dX3_opens_43 (by omega) (fun h hM => ?_)
  refine ev_aload_n dX3_opens_44 rfl ?_
  refine mx_getA hM dX3_opens_45 gf_X3_51_X3 rfl ?_
  refine ev_aload_n dX3_opens_48 rfl ?_
  refine mx_getI hM dX3_opens_49 gf_X3_174_X3 rfl ?_
  try simp only [uS_1, uA_1, uF_1, uS_2, uA_2a, uF_2a, Nat.reduceEqDiff, reduceIte, Int.reduceToNat, Int.toNat_natCast]
  rw [h23]
  refine ev_iconstZ dX3_opens_52 ?_
  refine mx_iast hM rfl dX3_opens_53 (by omega) (fun h hM => ?_)
  refine ev_aload_n dX3_opens_54 rfl ?_
  refine mx_getA hM dX3_opens_55 gf_X3_54_X3 rfl ?_
  refine ev_aload_n dX3_opens_58 rfl ?_
  refine mx_getI hM dX3_opens_59 gf_X3_174_X3 rfl ?_
  try simp only [uS_1, uA_1, uF_1, uS_2, uA_2a, uF_2a, Nat.reduceEqDiff, reduceIte, Int.reduceToNat, Int.toNat_natCast]
  rw [h23]
  refine ev_iconstZ dX3_opens_62 ?_
  refine mx_iast hM rfl dX3_opens_63 (by omega) (fun h hM => ?_)
  refine ev_aload_n dX3_opens_64 rfl ?_
  refine mx_getA hM dX3_opens_65 gf_X3_57_X3 rfl ?_
  refine ev_aload_n dX3_opens_68 rfl ?_
  refine mx_getI hM dX3_opens_69 gf_X3_174_X3 rfl ?_
  try simp only [uS_1, uA_1, uF_1, uS_2, uA_2a, uF_2a, Nat.reduceEqDiff, reduceIte, Int.reduceToNat, Int.toNat_natCast]
  rw [h23]
  refine ev_iconstZ dX3_opens_72 ?_
  refine mx_iast hM rfl dX3_opens_73 (by omega) (fun h hM => ?_)
  refine ev_aload_n dX3_opens_74 rfl ?_
  refine mx_getA hM dX3_opens_75 gf_X3_60_X3 rfl ?_
  refine ev_aload_n dX3_opens_78 rfl ?_
  refine mx_getI hM dX3_opens_79 gf_X3_174_X3 rfl ?_
  try simp only [uS_1, uA_1, uF_1, uS_2, uA_2a, uF_2a, Nat.reduceEqDiff, reduceIte, Int.reduceToNat, Int.toNat_natCast]
  rw [h23]
  refine ev_iconstZ dX3_opens_82 ?_
  refine mx_iast hM rfl dX3_opens_83 (by omega) (fun h hM => ?_)
  refine ev_aload_n dX3_opens_84 rfl ?_
  refine mx_getA hM dX3_opens_85 gf_X3_63_X3 rfl ?_
  refine ev_aload_n dX3_opens_88 rfl ?_
  refine mx_getI hM dX3_opens_89 gf_X3_174_X3 rfl ?_
  try simp only [uS_1, uA_1, uF_1, uS_2, uA_2a, uF_2a, Nat.reduceEqDiff, reduceIte, Int.reduceToNat, Int.toNat_natCast]
  rw [h23]
  refine ev_iconstZ dX3_opens_92 ?_
  refine mx_iast hM rfl dX3_opens_93 (by omega) (fun h hM => ?_)
  refine ev_aload_n dX3_opens_94 rfl ?_
  refine mx_getA hM dX3_opens_95 gf_X3_66_X3 rfl ?_
  refine ev_aload_n dX3_opens_98 rfl ?_
  refine mx_getI hM dX3_opens_99 gf_X3_174_X3 rfl ?_
  try simp only [uS_1, uA_1, uF_1, uS_2, uA_2a, uF_2a, Nat.reduceEqDiff, reduceIte, Int.reduceToNat, Int.toNat_natCast]
  rw [h23]
  refine ev_iconstZ dX3_opens_102 ?_
  refine mx_zast hM rfl dX3_opens_103 (by omega) (by omega) (fun h hM => ?_)
  refine ev_iconstZ dX3_opens_104 ?_
  refine ev_istore_n dX3_opens_105 (by decide) rfl ?_
  dsimp only [List.set]
  refine ev_for (800) (fun i h => MX g ad o h0 (uF (uA (uA (uA (uA (uA (uA (uA (uA (uA s 24 o1 nd.1) 25 o1 nd.2.1) 26 o1 nd.2.2.1) 27 o1 0) 28 o1 0) 29 o1 0) 30 o1 0) 31 o1 0) 32 o1 0) 33 (fun j => if 800 * o1 ≤ j ∧ j < 800 * o1 + i then 0 else s.2 33 j)) h) (fun i => [some (.ref o), some (vz (n : Int)), some (vz (i : Int))]) (0) (by omega) (by simp only [Int.toNat_natCast] at hM; exact MX.congr2 hM (by intro j _ _; rfl) (by intro j i hj; (try simp only [uS_1, uA_1, uF_1, uS_2, uA_2a, uF_2a, Nat.reduceEqDiff, reduceIte, Int.reduceToNat, Int.toNat_natCast]) <;> grind (splits := 40) [aN1, aN2, aN3, aN4, aN9, aN12, aN21, aN22])) (by repeat' first | exact rfl | exact trivial | exact vz_eq (by omega) | refine And.intro ?_ ?_) (fun i h hi1 hi2 hX hN => ?_) (fun h hX => ?_)
  · clear hM
    have hM : MX g ad o h0 (uF (uA (uA (uA (uA (uA (uA (uA (uA (uA s 24 o1 nd.1) 25 o1 nd.2.1) 26 o1 nd.2.2.1) 27 o1 0) 28 o1 0) 29 o1 0) 30 o1 0) 31 o1 0) 32 o1 0) 33 (fun j => if 800 * o1 ≤ j ∧ j < 800 * o1 + i then 0 else s.2 33 j)) h := hX
    clear hX
    refine ev_iload_n dX3_opens_106 rfl ?_
    refine ev_sipushZ dX3_opens_107 rfl ?_
    refine ev_icmp_geZ (tgt := 135) dX3_opens_110 (by decide) (by omega) (by omega) (fun c110 => absurd c110 (by omega)) (fun c110 => ?_)
    refine ev_aload_n dX3_opens_113 rfl ?_
    refine mx_getA hM dX3_opens_114 gf_X3_71_X3 rfl ?_
    refine ev_sipushZ dX3_opens_117 rfl ?_
    refine ev_aload_n dX3_opens_120 rfl ?_
    refine mx_getI hM dX3_opens_121 gf_X3_174_X3 rfl ?_
    try simp only [uS_1, uA_1, uF_1, uS_2, uA_2a, uF_2a, Nat.reduceEqDiff, reduceIte, Int.reduceToNat, Int.toNat_natCast]
    rw [h23]
    refine ev_imulZ dX3_opens_124 ?_
    refine ev_iload_n dX3_opens_125 rfl ?_
    refine ev_iaddZ dX3_opens_126 ?_
    refine ev_to (b := ((800 * o1 + i : Nat) : Int)) (by omega) ?_
    refine ev_iconstZ dX3_opens_127 ?_
    refine mx_iast hM rfl dX3_opens_128 (by omega) (fun h hM => ?_)
    refine ev_iincZ dX3_opens_129 rfl (by decide) rfl ?_
    dsimp only [List.set]
    refine ev_goto (tgt := 106) dX3_opens_132 (by decide) ?_
    exact hN _ _ (by repeat' first | exact rfl | exact trivial | exact vz_eq (by omega) | refine And.intro ?_ ?_) (MX.congr2 hM (by intro j _ _; rfl) (by intro j i hj; (try simp only [uS_1, uA_1, uF_1, uS_2, uA_2a, uF_2a, Nat.reduceEqDiff, reduceIte, Int.reduceToNat, Int.toNat_natCast]) <;> grind (splits := 40) [aN1, aN2, aN3, aN4, aN9, aN12, aN21, aN22]))
  · clear hM
    have hM : MX g ad o h0 (uF (uA (uA (uA (uA (uA (uA (uA (uA (uA s 24 o1 nd.1) 25 o1 nd.2.1) 26 o1 nd.2.2.1) 27 o1 0) 28 o1 0) 29 o1 0) 30 o1 0) 31 o1 0) 32 o1 0) 33 (fun j => if 800 * o1 ≤ j ∧ j < 800 * o1 + 800 then 0 else s.2 33 j)) h := hX
    clear hX
    refine ev_iload_n dX3_opens_106 rfl ?_
    refine ev_sipushZ dX3_opens_107 rfl ?_
    refine ev_icmp_geZ (tgt := 135) dX3_opens_110 (by decide) (by omega) (by omega) (fun c110 => ?_) (fun c110 => absurd (by omega) c110)
    refine ev_iconstZ dX3_opens_135 ?_
    refine ev_istore_n dX3_opens_136 (by decide) rfl ?_
    dsimp only [List.set]
    refine ev_for (100) (fun i h => MX g ad o h0 (uF (uF (uA (uA (uA (uA (uA (uA (uA (uA (uA s 24 o1 nd.1) 25 o1 nd.2.1) 26 o1 nd.2.2.1) 27 o1 0) 28 o1 0) 29 o1 0) 30 o1 0) 31 o1 0) 32 o1 0) 33 (fun j => if 800 * o1 ≤ j ∧ j < 800 * o1 + 800 then 0 else s.2 33 j)) 34 (fun j => if 100 * o1 ≤ j ∧ j < 100 * o1 + i then 0 else s.2 34 j)) h) (fun i => [some (.ref o), some (vz (n : Int)), some (vz (i : Int))]) (0) (by omega) (MX.congr2 hM (by intro j _ _; rfl) (by intro j i hj; (try simp only [uS_1, uA_1, uF_1, uS_2, uA_2a, uF_2a, Nat.reduceEqDiff, reduceIte, Int.reduceToNat, Int.toNat_natCast]) <;> grind (splits := 40) [aN1, aN2, aN3, aN4, aN9, aN12, aN21, aN22])) (by repeat' first | exact rfl | exact trivial | exact vz_eq (by omega) | refine And.intro ?_ ?_) (fun i h hi1 hi2 hX hN => ?_) (fun h hX => ?_)
    · clear hM
      have hM : MX g ad o h0 (uF (uF (uA (uA (uA (uA (uA (uA (uA (uA (uA s 24 o1 nd.1) 25 o1 nd.2.1) 26 o1 nd.2.2.1) 27 o1 0) 28 o1 0) 29 o1 0) 30 o1 0) 31 o1 0) 32 o1 0) 33 (fun j => if 800 * o1 ≤ j ∧ j < 800 * o1 + 800 then 0 else s.2 33 j)) 34 (fun j => if 100 * o1 ≤ j ∧ j < 100 * o1 + i then 0 else s.2 34 j)) h := hX
      clear hX
      refine ev_iload_n dX3_opens_137 rfl ?_
      refine ev_bipushZ dX3_opens_138 rfl ?_
      refine ev_icmp_geZ (tgt := 164) dX3_opens_140 (by decide) (by omega) (by omega) (fun c140 => absurd c140 (by omega)) (fun c140 => ?_)
      refine ev_aload_n dX3_opens_143 rfl ?_
      refine mx_getA hM dX3_opens_144 gf_X3_74_X3 rfl ?_
      refine ev_bipushZ dX3_opens_147 rfl ?_
      refine ev_aload_n dX3_opens_149 rfl ?_
      refine mx_getI hM dX3_opens_150 gf_X3_174_X3 rfl ?_
      try simp only [uS_1, uA_1, uF_1, uS_2, uA_2a, uF_2a, Nat.reduceEqDiff, reduceIte, Int.reduceToNat, Int.toNat_natCast]
      rw [h23]
      refine ev_imulZ dX3_opens_153 ?_
      refine ev_iload_n dX3_opens_154 rfl ?_
      refine ev_iaddZ dX3_opens_155 ?_
      refine ev_to (b := ((100 * o1 + i : Nat) : Int)) (by omega) ?_
      refine ev_iconstZ dX3_opens_156 ?_
      refine mx_iast hM rfl dX3_opens_157 (by omega) (fun h hM => ?_)
      refine ev_iincZ dX3_opens_158 rfl (by decide) rfl ?_
      dsimp only [List.set]
      refine ev_goto (tgt := 137) dX3_opens_161 (by decide) ?_
      exact hN _ _ (by repeat' first | exact rfl | exact trivial | exact vz_eq (by omega) | refine And.intro ?_ ?_) (MX.congr2 hM (by intro j _ _; rfl) (by intro j i hj; (try simp only [uS_1, uA_1, uF_1, uS_2, uA_2a, uF_2a, Nat.reduceEqDiff, reduceIte, Int.reduceToNat, Int.toNat_natCast]) <;> grind (splits := 40) [aN1, aN2, aN3, aN4, aN9, aN12, aN21, aN22]))
    · clear hM
      have hM : MX g ad o h0 (uF (uF (uA (uA (uA (uA (uA (uA (uA (uA (uA s 24 o1 nd.1) 25 o1 nd.2.1) 26 o1 nd.2.2.1) 27 o1 0) 28 o1 0) 29 o1 0) 30 o1 0) 31 o1 0) 32 o1 0) 33 (fun j => if 800 * o1 ≤ j ∧ j < 800 * o1 + 800 then 0 else s.2 33 j)) 34 (fun j => if 100 * o1 ≤ j ∧ j < 100 * o1 + 100 then 0 else s.2 34 j)) h := hX
      clear hX
      refine ev_iload_n dX3_opens_137 rfl ?_
      refine ev_bipushZ dX3_opens_138 rfl ?_
      refine ev_icmp_geZ (tgt := 164) dX3_opens_140 (by decide) (by omega) (by omega) (fun c140 => ?_) (fun c140 => absurd (by omega) c140)
      refine ev_aload_n dX3_opens_164 rfl ?_
      refine ev_dup dX3_opens_165 rfl ?_
      refine mx_getI hM dX3_opens_166 gf_X3_174_X3 rfl ?_
      try simp only [uS_1, uA_1, uF_1, uS_2, uA_2a, uF_2a, Nat.reduceEqDiff, reduceIte, Int.reduceToNat, Int.toNat_natCast]
      rw [h23]
      refine ev_iconstZ dX3_opens_169 ?_
      refine ev_iaddZ dX3_opens_170 ?_
      refine mx_putI hM dX3_opens_171 gf_X3_174_X3 rfl (fun h hM => ?_)
      refine ev_return dX3_opens_174 rfl ?_
      refine ⟨none, _, rfl, ⟨rfl, fr.S (fr.F (fr.F (fr.A (fr.A (fr.A (fr.A (fr.A (fr.A (fr.A (fr.A (fr.A (fr.refl _ _ _) rfl) rfl) rfl) rfl) rfl) rfl) rfl) rfl) rfl) rfl) rfl) rfl, rfl, ?_, ?_⟩, hM⟩
      · refine ⟨?_, ?_, ?_, ?_, ?_, ?_, ?_, ?_, ?_, ?_, ?_⟩
        case refine_10 => intro e q he hq; simp only [uS_1, uA_1, uF_1, uS_2, uA_2a, uF_2a, Nat.reduceEqDiff, reduceIte, Int.reduceToNat, Int.toNat_natCast]; rw [if_pos (by omega)]; rfl
        case refine_11 => intro q hq; simp only [uS_1, uA_1, uF_1, uS_2, uA_2a, uF_2a, Nat.reduceEqDiff, reduceIte, Int.reduceToNat, Int.toNat_natCast]; rw [if_pos (by omega)]; rfl
        all_goals (simp only [uS_1, uA_1, uF_1, uS_2, uA_2a, uF_2a, Nat.reduceEqDiff, reduceIte, Int.reduceToNat, Int.toNat_natCast]; rfl)
      · refine ⟨fun j hj i hi => ?_, fun x hx => ?_, fun x hx => ?_⟩
        · simp only [uS_1, uA_1, uF_1, uS_2, uA_2a, uF_2a, Nat.reduceEqDiff, reduceIte, Int.reduceToNat, Int.toNat_natCast, if_neg hi]; simp only [List.mem_cons, List.not_mem_nil, or_false] at hj; rcases hj with rfl | rfl | rfl | rfl | rfl | rfl | rfl | rfl | rfl <;> rfl
        · simp only [uS_1, uA_1, uF_1, uS_2, uA_2a, uF_2a, Nat.reduceEqDiff, reduceIte, Int.reduceToNat, Int.toNat_natCast]; rw [if_neg (by omega)]
        · simp only [uS_1, uA_1, uF_1, uS_2, uA_2a, uF_2a, Nat.reduceEqDiff, reduceIte, Int.reduceToNat, Int.toNat_natCast]; rw [if_neg (by omega)]
end M4

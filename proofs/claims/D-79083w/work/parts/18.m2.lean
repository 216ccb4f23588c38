/-! the reference: rows of nodes (printed by gen) -/
section M2
variable {g : GB} {M : MI} {d c k : Nat} {Q : RS → HM → Prop} {pc : Nat} {ls : List (Option Value)} {st : List Value} {h : HM} {a b : Int} {ad : Nat → Nat} {o : Nat} {h0 : HM} {s : MSt}
theorem MX.nm (hM : MX g ad o h0 s h) : ∃ s1, s1 = s ∧ MX g ad o h0 s1 h := ⟨s, rfl, hM⟩
theorem zI_shr : ∀ u : Fin 256, ∀ d : Fin 8, zI (u.val : Nat) >>> (zI (d.val : Nat) &&& 31) = zI ((u.val >>> d.val : Nat) : Int) := by decide +kernel
theorem zI_shl : ∀ d : Fin 8, zI 1 <<< (zI (d.val : Nat) &&& 31) = zI ((1 <<< d.val : Nat) : Int) := by decide +kernel
theorem ev_ishrZ {u e : Nat} (hd : decode M.2.1 pc = .ok (.ishr, 1)) (hu : u < 256) (he : e < 8) (kk : Ev g M d c k Q (pc + 1) ls (vz ((u >>> e : Nat) : Int) :: st) h) : Ev g M d c k Q pc ls (vz (e : Int) :: vz (u : Int) :: st) h :=
  ev_ishr hd (by rw [zI_shr ⟨u, hu⟩ ⟨e, he⟩]; exact kk)
theorem ev_ishlZ {e : Nat} (hd : decode M.2.1 pc = .ok (.ishl, 1)) (he : e < 8) (kk : Ev g M d c k Q (pc + 1) ls (vz ((1 <<< e : Nat) : Int) :: st) h) : Ev g M d c k Q pc ls (vz (e : Int) :: vz 1 :: st) h :=
  ev_ishl hd (by rw [zI_shl ⟨e, he⟩]; exact kk)
theorem bit_f : ∀ u : Fin 256, ∀ d : Fin 8, (u.val >>> d.val) &&& 1 = if u.val.testBit d.val then 1 else 0 := by decide +kernel
theorem bit_e {u e : Nat} (hu : u < 256) (he : e < 8) : (u >>> e) &&& 1 = if u.testBit e then 1 else 0 := bit_f ⟨u, hu⟩ ⟨e, he⟩
theorem or_lt {a b : Nat} (ha : a < 256) (hb : b < 256) : a ||| b < 256 := Nat.or_lt_two_pow (n := 8) ha hb
theorem and_lt {a b : Nat} (ha : a < 256) : a &&& b < 256 := Nat.lt_of_le_of_lt Nat.and_le_left ha
theorem shl_lt {e : Nat} (he : e < 8) : 1 <<< e < 256 := by
  have : ∀ e : Fin 8, 1 <<< e.val < 256 := by decide
  exact this ⟨e, he⟩
/-- the word of a constant -/
def kpN (x : Int) : Int := if x = 8 then 8 else x + 1
def hisA (H F : Nat → Int) (x : Int) : Nat → Int := fun j => if 8645 * ((kpN x).toNat - 1) ≤ j ∧ j < 8645 * (kpN x).toNat then F (j - 8645 * ((kpN x).toNat - 1)) else if x = 8 then H (j + 8645) else H j
def kepS (s : MSt) : MSt := uS (uS (uF s 4 (hisA (s.2 4) (s.2 3) (s.1 5))) 5 (kpN (s.1 5))) 14 0
set_option maxRecDepth 100000 in
set_option maxHeartbeats 4000000 in
theorem k_keeps (hd : 1 ≤ d) (hM : MX g ad o h0 s h) (hp : 0 ≤ s.1 5 ∧ s.1 5 ≤ 8) : Kc g mX3_keeps d 0 0 [.ref o] h (mR g ad o h0 none (kepS s)) := by
  refine Kc.of (ls := [some (.ref o), none]) (by decide +kernel) (Nat.le_of_ble_eq_true rfl) rfl ?_
  refine ev_aload_n dX3_keeps_0 rfl ?_
  refine mx_getI hM dX3_keeps_1 gf_X3_125_X3 rfl ?_
  refine ev_bipushZ dX3_keeps_4 rfl ?_
  refine ev_icmp_neZ (tgt := 42) dX3_keeps_6 (by decide) (by omega) (by omega) (fun c6 => ?_) (fun c6 => ?_)
  · refine ev_aload_n dX3_keeps_42 rfl ?_
    refine ev_dup dX3_keeps_43 rfl ?_
    refine mx_getI hM dX3_keeps_44 gf_X3_125_X3 rfl ?_
    refine ev_iconstZ dX3_keeps_47 ?_
    refine ev_iaddZ dX3_keeps_48 ?_
    refine mx_putI hM dX3_keeps_49 gf_X3_125_X3 rfl (fun h hM => ?_)
    refine ev_iconstZ dX3_keeps_52 ?_
    refine ev_istore_n dX3_keeps_53 (by decide) rfl ?_
    dsimp only [List.set]
    obtain ⟨s1, hs1, hM⟩ := MX.nm hM
    have f5 : s1.1 5 = kpN (s.1 5) := by subst hs1; simp only [uS_1, uF_1, Nat.reduceEqDiff, reduceIte]; unfold kpN; grind
    have f5b : 1 ≤ s1.1 5 ∧ s1.1 5 ≤ 8 := by rw [f5]; unfold kpN; grind
    have f1 : ∀ k, k ≠ 5 → s1.1 k = s.1 k := by subst hs1; intro k hk; (try simp only [uS_1, uF_1]) <;> grind
    have f2 : ∀ j i, j ≠ 4 → s1.2 j i = s.2 j i := by subst hs1; intro j i hj; (try simp only [uS_2, uF_2a]) <;> grind
    have f4 : ∀ i, s1.2 4 i = if s.1 5 = 8 ∧ i < 60515 then s.2 4 (i + 8645) else s.2 4 i := by subst hs1; intro i; (try simp only [uS_2, uF_2a]) <;> grind
    have f6 : s1.1 5 = if s.1 5 = 8 then 8 else s.1 5 + 1 := f5
    clear hs1
    obtain ⟨K, hK⟩ : ∃ K : Nat, s1.1 5 = (K : Int) + 1 := ⟨(s1.1 5 - 1).toNat, by omega⟩
    refine ev_for (8645) (fun i h => MX g ad o h0 (uF s1 4 (fun j => if 8645 * K ≤ j ∧ j < 8645 * K + i then s1.2 3 (j - 8645 * K) else s1.2 4 j)) h) (fun i => [some (.ref o), some (vz (i : Int))]) (0) (by omega) (MX.congr2 hM (by intro j _ _; rfl) (by intro j i hj; (try simp only [uS_1, uA_1, uF_1, uS_2, uA_2a, uF_2a, Nat.reduceEqDiff, reduceIte, Int.reduceToNat, Int.toNat_natCast]) <;> grind (splits := 40) [aN1, aN2, aN3, aN4, aN9, aN12, aN21, aN22])) (by repeat' first | exact rfl | exact trivial | exact vz_eq (by omega) | refine And.intro ?_ ?_) (fun i h hi1 hi2 hX hN => ?_) (fun h hX => ?_)
    · clear hM
      have hM : MX g ad o h0 (uF s1 4 (fun j => if 8645 * K ≤ j ∧ j < 8645 * K + i then s1.2 3 (j - 8645 * K) else s1.2 4 j)) h := hX
      clear hX
      refine ev_iload_n dX3_keeps_54 rfl ?_
      refine ev_sipushZ dX3_keeps_55 rfl ?_
      refine ev_icmp_geZ (tgt := 90) dX3_keeps_58 (by decide) (by omega) (by omega) (fun c58 => absurd c58 (by omega)) (fun c58 => ?_)
      refine ev_aload_n dX3_keeps_61 rfl ?_
      refine mx_getA hM dX3_keeps_62 gf_X3_20_X3 rfl ?_
      refine ev_sipushZ dX3_keeps_65 rfl ?_
      refine ev_aload_n dX3_keeps_68 rfl ?_
      refine mx_getI hM dX3_keeps_69 gf_X3_125_X3 rfl ?_
      try simp only [uS_1, uA_1, uF_1, uS_2, uA_2a, uF_2a, Nat.reduceEqDiff, reduceIte, Int.reduceToNat, Int.toNat_natCast]
      rw [hK]
      refine ev_iconstZ dX3_keeps_72 ?_
      refine ev_isubZ dX3_keeps_73 ?_
      refine ev_imulZ dX3_keeps_74 ?_
      refine ev_iload_n dX3_keeps_75 rfl ?_
      refine ev_iaddZ dX3_keeps_76 ?_
      refine ev_to (b := ((8645 * K + i : Nat) : Int)) (by omega) ?_
      refine ev_aload_n dX3_keeps_77 rfl ?_
      refine mx_getA hM dX3_keeps_78 gf_X3_16_X3 rfl ?_
      refine ev_iload_n dX3_keeps_81 rfl ?_
      refine mx_iald hM rfl dX3_keeps_82 (by omega) ?_
      try simp only [uS_1, uA_1, uF_1, uS_2, uA_2a, uF_2a, Nat.reduceEqDiff, reduceIte, Int.reduceToNat, Int.toNat_natCast]
      refine mx_iast hM rfl dX3_keeps_83 (by omega) (fun h hM => ?_)
      refine ev_iincZ dX3_keeps_84 rfl (by decide) rfl ?_
      dsimp only [List.set]
      refine ev_goto (tgt := 54) dX3_keeps_87 (by decide) ?_
      exact hN _ _ (by repeat' first | exact rfl | exact trivial | exact vz_eq (by omega) | refine And.intro ?_ ?_) (MX.congr2 hM (by intro j _ _; rfl) (by intro j i hj; (try simp only [uS_1, uA_1, uF_1, uS_2, uA_2a, uF_2a, Nat.reduceEqDiff, reduceIte, Int.reduceToNat, Int.toNat_natCast]) <;> grind (splits := 40) [aN1, aN2, aN3, aN4, aN9, aN12, aN21, aN22]))
    · clear hM
      have hM : MX g ad o h0 (uF s1 4 (fun j => if 8645 * K ≤ j ∧ j < 8645 * K + 8645 then s1.2 3 (j - 8645 * K) else s1.2 4 j)) h := hX
      clear hX
      refine ev_iload_n dX3_keeps_54 rfl ?_
      refine ev_sipushZ dX3_keeps_55 rfl ?_
      refine ev_icmp_geZ (tgt := 90) dX3_keeps_58 (by decide) (by omega) (by omega) (fun c58 => ?_) (fun c58 => absurd (by omega) c58)
      refine ev_aload_n dX3_keeps_90 rfl ?_
      refine ev_iconstZ dX3_keeps_91 ?_
      refine mx_putB hM dX3_keeps_92 gf_X3_128_X3 rfl (by omega) (fun h hM => ?_)
      refine ev_return dX3_keeps_95 rfl ?_
      exact ⟨rfl, MX.congr2 hM (by intro j _ _; unfold kepS; simp only [uS_1, uF_1]; grind) (by intro j i hj; unfold kepS; simp only [uS_2, uF_2a]; unfold hisA; have := f4 i; have := f2 j i; have := f2 3 (i - 8645 * K); rw [← f5, hK]; grind [aN4])⟩
  · refine ev_iconstZ dX3_keeps_9 ?_
    refine ev_istore_n dX3_keeps_10 (by decide) rfl ?_
    dsimp only [List.set]
    refine ev_for (60515) (fun i h => MX g ad o h0 (uF s 4 (fun j => if j < i then s.2 4 (j + 8645) else s.2 4 j)) h) (fun i => [some (.ref o), some (vz (i : Int))]) (0) (by omega) (MX.congr2 hM (by intro j _ _; rfl) (by intro j i hj; (try simp only [uS_1, uA_1, uF_1, uS_2, uA_2a, uF_2a, Nat.reduceEqDiff, reduceIte, Int.reduceToNat, Int.toNat_natCast]) <;> grind (splits := 40) [aN1, aN2, aN3, aN4, aN9, aN12, aN21, aN22])) (by repeat' first | exact rfl | exact trivial | exact vz_eq (by omega) | refine And.intro ?_ ?_) (fun i h hi1 hi2 hX hN => ?_) (fun h hX => ?_)
    · clear hM
      have hM : MX g ad o h0 (uF s 4 (fun j => if j < i then s.2 4 (j + 8645) else s.2 4 j)) h := hX
      clear hX
      refine ev_iload_n dX3_keeps_11 rfl ?_
      refine ev_ldciZ (n := 60515) (v := 60515) dX3_keeps_12 q2913 (by decide) ?_
      refine ev_icmp_geZ (tgt := 39) dX3_keeps_14 (by decide) (by omega) (by omega) (fun c14 => absurd c14 (by omega)) (fun c14 => ?_)
      refine ev_aload_n dX3_keeps_17 rfl ?_
      refine mx_getA hM dX3_keeps_18 gf_X3_20_X3 rfl ?_
      refine ev_iload_n dX3_keeps_21 rfl ?_
      refine ev_aload_n dX3_keeps_22 rfl ?_
      refine mx_getA hM dX3_keeps_23 gf_X3_20_X3 rfl ?_
      refine ev_iload_n dX3_keeps_26 rfl ?_
      refine ev_sipushZ dX3_keeps_27 rfl ?_
      refine ev_iaddZ dX3_keeps_30 ?_
      refine mx_iald hM rfl dX3_keeps_31 (by omega) ?_
      try simp only [uS_1, uA_1, uF_1, uS_2, uA_2a, uF_2a, Nat.reduceEqDiff, reduceIte, Int.reduceToNat, Int.toNat_natCast]
      refine mx_iast hM rfl dX3_keeps_32 (by omega) (fun h hM => ?_)
      refine ev_iincZ dX3_keeps_33 rfl (by decide) rfl ?_
      dsimp only [List.set]
      refine ev_goto (tgt := 11) dX3_keeps_36 (by decide) ?_
      exact hN _ _ (by repeat' first | exact rfl | exact trivial | exact vz_eq (by omega) | refine And.intro ?_ ?_) (MX.congr2 hM (by intro j _ _; rfl) (by intro j i hj; (try simp only [uS_1, uA_1, uF_1, uS_2, uA_2a, uF_2a, Nat.reduceEqDiff, reduceIte, Int.reduceToNat, Int.toNat_natCast]) <;> grind (splits := 40) [aN1, aN2, aN3, aN4, aN9, aN12, aN21, aN22]))
    · clear hM
      have hM : MX g ad o h0 (uF s 4 (fun j => if j < 60515 then s.2 4 (j + 8645) else s.2 4 j)) h := hX
      clear hX
      refine ev_iload_n dX3_keeps_11 rfl ?_
      refine ev_ldciZ (n := 60515) (v := 60515) dX3_keeps_12 q2913 (by decide) ?_
      refine ev_icmp_geZ (tgt := 39) dX3_keeps_14 (by decide) (by omega) (by omega) (fun c14 => ?_) (fun c14 => absurd (by omega) c14)
      refine ev_goto (tgt := 52) dX3_keeps_39 (by decide) ?_
      refine ev_iconstZ dX3_keeps_52 ?_
      refine ev_istore_n dX3_keeps_53 (by decide) rfl ?_
      dsimp only [List.set]
      obtain ⟨s1, hs1, hM⟩ := MX.nm hM
      have f5 : s1.1 5 = kpN (s.1 5) := by subst hs1; simp only [uS_1, uF_1, Nat.reduceEqDiff, reduceIte]; unfold kpN; grind
      have f5b : 1 ≤ s1.1 5 ∧ s1.1 5 ≤ 8 := by rw [f5]; unfold kpN; grind
      have f1 : ∀ k, k ≠ 5 → s1.1 k = s.1 k := by subst hs1; intro k hk; (try simp only [uS_1, uF_1]) <;> grind
      have f2 : ∀ j i, j ≠ 4 → s1.2 j i = s.2 j i := by subst hs1; intro j i hj; (try simp only [uS_2, uF_2a]) <;> grind
      have f4 : ∀ i, s1.2 4 i = if s.1 5 = 8 ∧ i < 60515 then s.2 4 (i + 8645) else s.2 4 i := by subst hs1; intro i; (try simp only [uS_2, uF_2a]) <;> grind
      have f6 : s1.1 5 = if s.1 5 = 8 then 8 else s.1 5 + 1 := f5
      clear hs1
      obtain ⟨K, hK⟩ : ∃ K : Nat, s1.1 5 = (K : Int) + 1 := ⟨(s1.1 5 - 1).toNat, by omega⟩
      refine ev_for (8645) (fun i h => MX g ad o h0 (uF s1 4 (fun j => if 8645 * K ≤ j ∧ j < 8645 * K + i then s1.2 3 (j - 8645 * K) else s1.2 4 j)) h) (fun i => [some (.ref o), some (vz (i : Int))]) (0) (by omega) (MX.congr2 hM (by intro j _ _; rfl) (by intro j i hj; (try simp only [uS_1, uA_1, uF_1, uS_2, uA_2a, uF_2a, Nat.reduceEqDiff, reduceIte, Int.reduceToNat, Int.toNat_natCast]) <;> grind (splits := 40) [aN1, aN2, aN3, aN4, aN9, aN12, aN21, aN22])) (by repeat' first | exact rfl | exact trivial | exact vz_eq (by omega) | refine And.intro ?_ ?_) (fun i h hi1 hi2 hX hN => ?_) (fun h hX => ?_)
      · clear hM
        have hM : MX g ad o h0 (uF s1 4 (fun j => if 8645 * K ≤ j ∧ j < 8645 * K + i then s1.2 3 (j - 8645 * K) else s1.2 4 j)) h := hX
        clear hX
        refine ev_iload_n dX3_keeps_54 rfl ?_
        refine ev_sipushZ dX3_keeps_55 rfl ?_
        refine ev_icmp_geZ (tgt := 90) dX3_keeps_58 (by decide) (by omega) (by omega) (fun c58 => absurd c58 (by omega)) (fun c58 => ?_)
        refine ev_aload_n dX3_keeps_61 rfl ?_
        refine mx_getA hM dX3_keeps_62 gf_X3_20_X3 rfl ?_
        refine ev_sipushZ dX3_keeps_65 rfl ?_
        refine ev_aload_n dX3_keeps_68 rfl ?_
        refine mx_getI hM dX3_keeps_69 gf_X3_125_X3 rfl ?_
        try simp only [uS_1, uA_1, uF_1, uS_2, uA_2a, uF_2a, Nat.reduceEqDiff, reduceIte, Int.reduceToNat, Int.toNat_natCast]
        rw [hK]
        refine ev_iconstZ dX3_keeps_72 ?_
        refine ev_isubZ dX3_keeps_73 ?_
        refine ev_imulZ dX3_keeps_74 ?_
        refine ev_iload_n dX3_keeps_75 rfl ?_
        refine ev_iaddZ dX3_keeps_76 ?_
        refine ev_to (b := ((8645 * K + i : Nat) : Int)) (by omega) ?_
        refine ev_aload_n dX3_keeps_77 rfl ?_
        refine mx_getA hM dX3_keeps_78 gf_X3_16_X3 rfl ?_
        refine ev_iload_n dX3_keeps_81 rfl ?_
        refine mx_iald hM rfl dX3_keeps_82 (by omega) ?_
        try simp only [uS_1, uA_1, uF_1, uS_2, uA_2a, uF_2a, Nat.reduceEqDiff, reduceIte, Int.reduceToNat, Int.toNat_natCast]
        refine mx_iast hM rfl dX3_keeps_83 (by omega) (fun h hM => ?_)
        refine ev_iincZ dX3_keeps_84 rfl (by decide) rfl ?_
        dsimp only [List.set]
        refine ev_goto (tgt := 54) dX3_keeps_87 (by decide) ?_
        exact hN _ _ (by repeat' first | exact rfl | exact trivial | exact vz_eq (by omega) | refine And.intro ?_ ?_) (MX.congr2 hM (by intro j _ _; rfl) (by intro j i hj; (try simp only [uS_1, uA_1, uF_1, uS_2, uA_2a, uF_2a, Nat.reduceEqDiff, reduceIte, Int.reduceToNat, Int.toNat_natCast]) <;> grind (splits := 40) [aN1, aN2, aN3, aN4, aN9, aN12, aN21, aN22]))
      · clear hM
        have hM : MX g ad o h0 (uF s1 4 (fun j => if 8645 * K ≤ j ∧ j < 8645 * K + 8645 then s1.2 3 (j - 8645 * K) else s1.2 4 j)) h := hX
        clear hX
        refine ev_iload_n dX3_keeps_54 rfl ?_
        refine ev_sipushZ dX3_keeps_55 rfl ?_
        refine ev_icmp_geZ (tgt := 90) dX3_keeps_58 (by decide) (by omega) (by omega) (fun c58 => ?_) (fun c58 => absurd (by omega) c58)
        refine ev_aload_n dX3_keeps_90 rfl ?_
        refine ev_iconstZ dX3_keeps_91 ?_
        refine mx_putB hM dX3_keeps_92 gf_X3_128_X3 rfl (by omega) (fun h hM => ?_)
        refine ev_return dX3_keeps_95 rfl ?_
        exact ⟨rfl, MX.congr2 hM (by intro j _ _; unfold kepS; simp only [uS_1, uF_1]; grind) (by intro j i hj; unfold kepS; simp only [uS_2, uF_2a]; unfold hisA; have := f4 i; have := f2 j i; have := f2 3 (i - 8645 * K); rw [← f5, hK]; grind [aN4])⟩
def insA (A : Nat → Int) (kd v ch : Int) : Nat → Int := fun j => if j = 43 then A 43 + 1 else if j = 45 then kd else if j = 46 then v else if j = 47 then ch else if 51 ≤ j ∧ j < 51 + 6 * (A 43).toNat then A (j - 6) else A j
def drpA (A : Nat → Int) : Nat → Int := fun j => if j = 43 then A 43 - 1 else if 45 ≤ j ∧ j < 45 + 6 * ((A 43).toNat - 1) then A (j + 6) else A j
def appA (A : Nat → Int) (kd v ch : Int) : Nat → Int := fun j => if j = 43 then A 43 + 1 else if j = 45 + 6 * (A 43).toNat then kd else if j = 46 + 6 * (A 43).toNat then v else if j = 47 + 6 * (A 43).toNat then ch else if j = 48 + 6 * (A 43).toNat then A 44 else if j = 49 + 6 * (A 43).toNat then 0 else if j = 50 + 6 * (A 43).toNat then 0 else A j
def addA (A : Nat → Int) (w : Nat) (x : Int) : Nat → Int := fun j => if j = 44 then A 44 + 1 else if j = 6645 + (A 44).toNat then x else if j = 45 + 6 * ((A 43).toNat - 1) + w then A j + 1 else A j
def empS (s : MSt) : MSt := uF (uF (uS (uS (uS (uS s 17 0) 18 0) 19 1) 20 0) 21 (fun _ => 0)) 22 (fun _ => 0)
def refS (s : MSt) (r x : Int) : MSt := if 0 < s.1 15 then s else uS (uS s 15 r) 16 x
/-! rows of nodes -/
set_option maxRecDepth 100000 in
set_option maxHeartbeats 4000000 in
theorem k_inserts (N : Nat) (hN0 : s.2 1 43 = (N : Int)) (hN1 : N < 1000) {kd v ch : Int} (hM : MX g ad o h0 s h) (hd : 2 ≤ d) : Kc g mX3_inserts d 0 0 [.ref o, vz kd, vz v, vz ch] h (mR g ad o h0 none (uF s 1 (insA (s.2 1) kd v ch))) := by
  refine Kc.of (ls := [some (.ref o), some (vz kd), some (vz v), some (vz ch), none]) (by decide +kernel) (Nat.le_of_ble_eq_true rfl) rfl ?_
  refine ev_bipushZ dX3_inserts_0 rfl ?_
  refine ev_aload_n dX3_inserts_2 rfl ?_
  refine mx_getA hM dX3_inserts_3 gf_X3_7_X3 rfl ?_
  refine ev_bipushZ dX3_inserts_6 rfl ?_
  refine mx_iald hM rfl dX3_inserts_8 (by omega) ?_
  try simp only [uS_1, uA_1, uF_1, uS_2, uA_2a, uF_2a, Nat.reduceEqDiff, reduceIte, Int.reduceToNat, Int.toNat_natCast]
  rw [hN0]
  refine ev_imulZ dX3_inserts_9 ?_
  refine ev_iconstZ dX3_inserts_10 ?_
  refine ev_isubZ dX3_inserts_11 ?_
  refine ev_istore dX3_inserts_12 (by decide) rfl ?_
  dsimp only [List.set]
  refine ev_for (6 * N) (fun i h => MX g ad o h0 (uF s 1 (fun j => if 51 + 6 * N - i ≤ j ∧ j < 51 + 6 * N then s.2 1 (j - 6) else s.2 1 j)) h) (fun i => [some (.ref o), some (vz kd), some (vz v), some (vz ch), some (vz (6 * (N : Int) - 1 - (i : Int)))]) (0) (by omega) (MX.congr2 hM (by intro j _ _; rfl) (by intro j i hj; (try simp only [uS_1, uA_1, uF_1, uS_2, uA_2a, uF_2a, Nat.reduceEqDiff, reduceIte, Int.reduceToNat, Int.toNat_natCast]) <;> grind (splits := 40) [aN1, aN2, aN3, aN4, aN9, aN12, aN21, aN22])) (by repeat' first | exact rfl | exact trivial | exact vz_eq (by omega) | refine And.intro ?_ ?_) (fun i h hi1 hi2 hX hN => ?_) (fun h hX => ?_)
  · clear hM
    have hM : MX g ad o h0 (uF s 1 (fun j => if 51 + 6 * N - i ≤ j ∧ j < 51 + 6 * N then s.2 1 (j - 6) else s.2 1 j)) h := hX
    clear hX
    refine ev_iload dX3_inserts_14 rfl ?_
    refine ev_if_ltZ (tgt := 45) dX3_inserts_16 (by decide) (by omega) (fun c16 => absurd c16 (by omega)) (fun c16 => ?_)
    refine ev_aload_n dX3_inserts_19 rfl ?_
    refine mx_getA hM dX3_inserts_20 gf_X3_7_X3 rfl ?_
    refine ev_bipushZ dX3_inserts_23 rfl ?_
    refine ev_iload dX3_inserts_25 rfl ?_
    refine ev_iaddZ dX3_inserts_27 ?_
    refine ev_to (b := ((51 + 6 * N - 1 - i : Nat) : Int)) (by omega) ?_
    refine ev_aload_n dX3_inserts_28 rfl ?_
    refine mx_getA hM dX3_inserts_29 gf_X3_7_X3 rfl ?_
    refine ev_bipushZ dX3_inserts_32 rfl ?_
    refine ev_iload dX3_inserts_34 rfl ?_
    refine ev_iaddZ dX3_inserts_36 ?_
    refine ev_to (b := ((45 + 6 * N - 1 - i : Nat) : Int)) (by omega) ?_
    refine mx_iald hM rfl dX3_inserts_37 (by omega) ?_
    try simp only [uS_1, uA_1, uF_1, uS_2, uA_2a, uF_2a, Nat.reduceEqDiff, reduceIte, Int.reduceToNat, Int.toNat_natCast]
    rw [if_neg (by omega)]
    refine mx_iast hM rfl dX3_inserts_38 (by omega) (fun h hM => ?_)
    refine ev_iincZ dX3_inserts_39 rfl (by decide) rfl ?_
    dsimp only [List.set]
    refine ev_goto (tgt := 14) dX3_inserts_42 (by decide) ?_
    exact hN _ _ (by repeat' first | exact rfl | exact trivial | exact vz_eq (by omega) | refine And.intro ?_ ?_) (MX.congr2 hM (by intro j _ _; rfl) (by intro j i hj; (try simp only [uS_1, uA_1, uF_1, uS_2, uA_2a, uF_2a, Nat.reduceEqDiff, reduceIte, Int.reduceToNat, Int.toNat_natCast]) <;> grind (splits := 40) [aN1, aN2, aN3, aN4, aN9, aN12, aN21, aN22]))
  · clear hM
    have hM : MX g ad o h0 (uF s 1 (fun j => if 51 + 6 * N - (6 * N) ≤ j ∧ j < 51 + 6 * N then s.2 1 (j - 6) else s.2 1 j)) h := hX
    clear hX
    refine ev_iload dX3_inserts_14 rfl ?_
    refine ev_if_ltZ (tgt := 45) dX3_inserts_16 (by decide) (by omega) (fun c16 => ?_) (fun c16 => absurd (by omega) c16)
    refine ev_aload_n dX3_inserts_45 rfl ?_
    refine mx_getA hM dX3_inserts_46 gf_X3_7_X3 rfl ?_
    refine ev_bipushZ dX3_inserts_49 rfl ?_
    refine ev_dup2 dX3_inserts_51 rfl rfl ?_
    refine mx_iald hM rfl dX3_inserts_52 (by omega) ?_
    try simp only [uS_1, uA_1, uF_1, uS_2, uA_2a, uF_2a, Nat.reduceEqDiff, reduceIte, Int.reduceToNat, Int.toNat_natCast]
    refine ev_iconstZ dX3_inserts_53 ?_
    refine ev_iaddZ dX3_inserts_54 ?_
    refine mx_iast hM rfl dX3_inserts_55 (by omega) (fun h hM => ?_)
    refine ev_aload_n dX3_inserts_56 rfl ?_
    refine ev_iconstZ dX3_inserts_57 ?_
    refine ev_iconstZ dX3_inserts_58 ?_
    refine ev_iload_n dX3_inserts_59 rfl ?_
    refine mx_callv dX3_inserts_60 cv_X3_137_X3 ce_X3_put hM rfl rfl (k_put (d := d - 1) (by omega) hM (by omega)) (by omega) (Nat.le_of_ble_eq_true rfl) (fun h hM => ?_)
    refine ev_aload_n dX3_inserts_63 rfl ?_
    refine ev_iconstZ dX3_inserts_64 ?_
    refine ev_iconstZ dX3_inserts_65 ?_
    refine ev_iload_n dX3_inserts_66 rfl ?_
    refine mx_callv dX3_inserts_67 cv_X3_137_X3 ce_X3_put hM rfl rfl (k_put (d := d - 1) (by omega) hM (by omega)) (by omega) (Nat.le_of_ble_eq_true rfl) (fun h hM => ?_)
    refine ev_aload_n dX3_inserts_70 rfl ?_
    refine ev_iconstZ dX3_inserts_71 ?_
    refine ev_iconstZ dX3_inserts_72 ?_
    refine ev_iload_n dX3_inserts_73 rfl ?_
    refine mx_callv dX3_inserts_74 cv_X3_137_X3 ce_X3_put hM rfl rfl (k_put (d := d - 1) (by omega) hM (by omega)) (by omega) (Nat.le_of_ble_eq_true rfl) (fun h hM => ?_)
    refine ev_return dX3_inserts_77 rfl ?_
    exact ⟨rfl, MX.congr2 hM (by intro j _ _; rfl) (by intro j i hj; (try simp only [uS_1, uA_1, uF_1, uS_2, uA_2a, uF_2a, Nat.reduceEqDiff, reduceIte, Int.reduceToNat, Int.toNat_natCast, insA]) <;> grind (splits := 40) [aN1, aN2, aN3, aN4, aN9, aN12, aN21, aN22])⟩
set_option maxRecDepth 100000 in
set_option maxHeartbeats 4000000 in
theorem k_dropsFirst (N : Nat) (hN0 : s.2 1 43 = (N : Int)) (hN1 : N < 1000) (hN2 : 1 ≤ N) (hM : MX g ad o h0 s h) (hd : 1 ≤ d) : Kc g mX3_dropsFirst d 0 0 [.ref o] h (mR g ad o h0 none (uF s 1 (drpA (s.2 1)))) := by
  refine Kc.of (ls := [some (.ref o), none]) (by decide +kernel) (Nat.le_of_ble_eq_true rfl) rfl ?_
  refine ev_aload_n dX3_dropsFirst_0 rfl ?_
  refine mx_getA hM dX3_dropsFirst_1 gf_X3_7_X3 rfl ?_
  refine ev_bipushZ dX3_dropsFirst_4 rfl ?_
  refine ev_dup2 dX3_dropsFirst_6 rfl rfl ?_
  refine mx_iald hM rfl dX3_dropsFirst_7 (by omega) ?_
  try simp only [uS_1, uA_1, uF_1, uS_2, uA_2a, uF_2a, Nat.reduceEqDiff, reduceIte, Int.reduceToNat, Int.toNat_natCast]
  rw [hN0]
  refine ev_iconstZ dX3_dropsFirst_8 ?_
  refine ev_isubZ dX3_dropsFirst_9 ?_
  refine mx_iast hM rfl dX3_dropsFirst_10 (by omega) (fun h hM => ?_)
  refine ev_iconstZ dX3_dropsFirst_11 ?_
  refine ev_istore_n dX3_dropsFirst_12 (by decide) rfl ?_
  dsimp only [List.set]
  refine ev_for (6 * (N - 1)) (fun i h => MX g ad o h0 (uF (uA s 1 43 ((N : Int) - 1)) 1 (fun j => if j = 43 then (N : Int) - 1 else if 45 ≤ j ∧ j < 45 + i then s.2 1 (j + 6) else s.2 1 j)) h) (fun i => [some (.ref o), some (vz (i : Int))]) (0) (by omega) (MX.congr2 hM (by intro j _ _; rfl) (by intro j i hj; (try simp only [uS_1, uA_1, uF_1, uS_2, uA_2a, uF_2a, Nat.reduceEqDiff, reduceIte, Int.reduceToNat, Int.toNat_natCast]) <;> grind (splits := 40) [aN1, aN2, aN3, aN4, aN9, aN12, aN21, aN22])) (by repeat' first | exact rfl | exact trivial | exact vz_eq (by omega) | refine And.intro ?_ ?_) (fun i h hi1 hi2 hX hN => ?_) (fun h hX => ?_)
  · clear hM
    have hM : MX g ad o h0 (uF (uA s 1 43 ((N : Int) - 1)) 1 (fun j => if j = 43 then (N : Int) - 1 else if 45 ≤ j ∧ j < 45 + i then s.2 1 (j + 6) else s.2 1 j)) h := hX
    clear hX
    refine ev_iload_n dX3_dropsFirst_13 rfl ?_
    refine ev_bipushZ dX3_dropsFirst_14 rfl ?_
    refine ev_aload_n dX3_dropsFirst_16 rfl ?_
    refine mx_getA hM dX3_dropsFirst_17 gf_X3_7_X3 rfl ?_
    refine ev_bipushZ dX3_dropsFirst_20 rfl ?_
    refine mx_iald hM rfl dX3_dropsFirst_22 (by omega) ?_
    try simp only [uS_1, uA_1, uF_1, uS_2, uA_2a, uF_2a, Nat.reduceEqDiff, reduceIte, Int.reduceToNat, Int.toNat_natCast]
    refine ev_imulZ dX3_dropsFirst_23 ?_
    refine ev_icmp_geZ (tgt := 51) dX3_dropsFirst_24 (by decide) (by omega) (by omega) (fun c24 => absurd c24 (by omega)) (fun c24 => ?_)
    refine ev_aload_n dX3_dropsFirst_27 rfl ?_
    refine mx_getA hM dX3_dropsFirst_28 gf_X3_7_X3 rfl ?_
    refine ev_bipushZ dX3_dropsFirst_31 rfl ?_
    refine ev_iload_n dX3_dropsFirst_33 rfl ?_
    refine ev_iaddZ dX3_dropsFirst_34 ?_
    refine ev_to (b := ((45 + i : Nat) : Int)) (by omega) ?_
    refine ev_aload_n dX3_dropsFirst_35 rfl ?_
    refine mx_getA hM dX3_dropsFirst_36 gf_X3_7_X3 rfl ?_
    refine ev_bipushZ dX3_dropsFirst_39 rfl ?_
    refine ev_iload_n dX3_dropsFirst_41 rfl ?_
    refine ev_iaddZ dX3_dropsFirst_42 ?_
    refine ev_to (b := ((51 + i : Nat) : Int)) (by omega) ?_
    refine mx_iald hM rfl dX3_dropsFirst_43 (by omega) ?_
    try simp only [uS_1, uA_1, uF_1, uS_2, uA_2a, uF_2a, Nat.reduceEqDiff, reduceIte, Int.reduceToNat, Int.toNat_natCast]
    rw [if_neg (by omega), if_neg (by omega)]
    refine mx_iast hM rfl dX3_dropsFirst_44 (by omega) (fun h hM => ?_)
    refine ev_iincZ dX3_dropsFirst_45 rfl (by decide) rfl ?_
    dsimp only [List.set]
    refine ev_goto (tgt := 13) dX3_dropsFirst_48 (by decide) ?_
    exact hN _ _ (by repeat' first | exact rfl | exact trivial | exact vz_eq (by omega) | refine And.intro ?_ ?_) (MX.congr2 hM (by intro j _ _; rfl) (by intro j i hj; (try simp only [uS_1, uA_1, uF_1, uS_2, uA_2a, uF_2a, Nat.reduceEqDiff, reduceIte, Int.reduceToNat, Int.toNat_natCast]) <;> grind (splits := 40) [aN1, aN2, aN3, aN4, aN9, aN12, aN21, aN22]))
  · clear hM
    have hM : MX g ad o h0 (uF (uA s 1 43 ((N : Int) - 1)) 1 (fun j => if j = 43 then (N : Int) - 1 else if 45 ≤ j ∧ j < 45 + (6 * (N - 1)) then s.2 1 (j + 6) else s.2 1 j)) h := hX
    clear hX
    refine ev_iload_n dX3_dropsFirst_13 rfl ?_
    refine ev_bipushZ dX3_dropsFirst_14 rfl ?_
    refine ev_aload_n dX3_dropsFirst_16 rfl ?_
    refine mx_getA hM dX3_dropsFirst_17 gf_X3_7_X3 rfl ?_
    refine ev_bipushZ dX3_dropsFirst_20 rfl ?_
    refine mx_iald hM rfl dX3_dropsFirst_22 (by omega) ?_
    try simp only [uS_1, uA_1, uF_1, uS_2, uA_2a, uF_2a, Nat.reduceEqDiff, reduceIte, Int.reduceToNat, Int.toNat_natCast]
    refine ev_imulZ dX3_dropsFirst_23 ?_
    refine ev_icmp_geZ (tgt := 51) dX3_dropsFirst_24 (by decide) (by omega) (by omega) (fun c24 => ?_) (fun c24 => absurd (by omega) c24)
    refine ev_return dX3_dropsFirst_51 rfl ?_
    exact ⟨rfl, MX.congr2 hM (by intro j _ _; rfl) (by intro j i hj; (try simp only [uS_1, uA_1, uF_1, uS_2, uA_2a, uF_2a, Nat.reduceEqDiff, reduceIte, Int.reduceToNat, Int.toNat_natCast, drpA]) <;> grind (splits := 40) [aN1, aN2, aN3, aN4, aN9, aN12, aN21, aN22])⟩
set_option maxRecDepth 100000 in
set_option maxHeartbeats 4000000 in
theorem k_appends (N : Nat) (hN0 : s.2 1 43 = (N : Int)) (hN1 : N < 1000) (hD : 0 ≤ s.2 1 44 ∧ s.2 1 44 ≤ 2000) {kd v ch : Int} (hM : MX g ad o h0 s h) (hd : 2 ≤ d) : Kc g mX3_appends d 0 0 [.ref o, vz kd, vz v, vz ch] h (mR g ad o h0 none (uF s 1 (appA (s.2 1) kd v ch))) := by
  refine Kc.of (ls := [some (.ref o), some (vz kd), some (vz v), some (vz ch), none]) (by decide +kernel) (Nat.le_of_ble_eq_true rfl) rfl ?_
  refine ev_aload_n dX3_appends_0 rfl ?_
  refine mx_getA hM dX3_appends_1 gf_X3_7_X3 rfl ?_
  refine ev_bipushZ dX3_appends_4 rfl ?_
  refine mx_iald hM rfl dX3_appends_6 (by omega) ?_
  try simp only [uS_1, uA_1, uF_1, uS_2, uA_2a, uF_2a, Nat.reduceEqDiff, reduceIte, Int.reduceToNat, Int.toNat_natCast]
  rw [hN0]
  refine ev_istore dX3_appends_7 (by decide) rfl ?_
  dsimp only [List.set]
  refine ev_aload_n dX3_appends_9 rfl ?_
  refine mx_getA hM dX3_appends_10 gf_X3_7_X3 rfl ?_
  refine ev_bipushZ dX3_appends_13 rfl ?_
  refine ev_dup2 dX3_appends_15 rfl rfl ?_
  refine mx_iald hM rfl dX3_appends_16 (by omega) ?_
  try simp only [uS_1, uA_1, uF_1, uS_2, uA_2a, uF_2a, Nat.reduceEqDiff, reduceIte, Int.reduceToNat, Int.toNat_natCast]
  rw [hN0]
  refine ev_iconstZ dX3_appends_17 ?_
  refine ev_iaddZ dX3_appends_18 ?_
  refine mx_iast hM rfl dX3_appends_19 (by omega) (fun h hM => ?_)
  refine ev_aload_n dX3_appends_20 rfl ?_
  refine ev_iload dX3_appends_21 rfl ?_
  refine ev_iconstZ dX3_appends_23 ?_
  refine ev_iload_n dX3_appends_24 rfl ?_
  refine mx_callv dX3_appends_25 cv_X3_137_X3 ce_X3_put hM rfl rfl (k_put (d := d - 1) (by omega) hM (by omega)) (by omega) (Nat.le_of_ble_eq_true rfl) (fun h hM => ?_)
  refine ev_aload_n dX3_appends_28 rfl ?_
  refine ev_iload dX3_appends_29 rfl ?_
  refine ev_iconstZ dX3_appends_31 ?_
  refine ev_iload_n dX3_appends_32 rfl ?_
  refine mx_callv dX3_appends_33 cv_X3_137_X3 ce_X3_put hM rfl rfl (k_put (d := d - 1) (by omega) hM (by omega)) (by omega) (Nat.le_of_ble_eq_true rfl) (fun h hM => ?_)
  refine ev_aload_n dX3_appends_36 rfl ?_
  refine ev_iload dX3_appends_37 rfl ?_
  refine ev_iconstZ dX3_appends_39 ?_
  refine ev_iload_n dX3_appends_40 rfl ?_
  refine mx_callv dX3_appends_41 cv_X3_137_X3 ce_X3_put hM rfl rfl (k_put (d := d - 1) (by omega) hM (by omega)) (by omega) (Nat.le_of_ble_eq_true rfl) (fun h hM => ?_)
  refine ev_aload_n dX3_appends_44 rfl ?_
  refine ev_iload dX3_appends_45 rfl ?_
  refine ev_iconstZ dX3_appends_47 ?_
  refine ev_aload_n dX3_appends_48 rfl ?_
  refine mx_getA hM dX3_appends_49 gf_X3_7_X3 rfl ?_
  refine ev_bipushZ dX3_appends_52 rfl ?_
  refine mx_iald hM rfl dX3_appends_54 (by omega) ?_
  try simp only [uS_1, uA_1, uF_1, uS_2, uA_2a, uF_2a, Nat.reduceEqDiff, reduceIte, Int.reduceToNat, Int.toNat_natCast]
  rw [if_neg (by omega), if_neg (by omega), if_neg (by omega)]
  refine mx_callv dX3_appends_55 cv_X3_137_X3 ce_X3_put hM rfl rfl (k_put (d := d - 1) (by omega) hM (by omega)) (by omega) (Nat.le_of_ble_eq_true rfl) (fun h hM => ?_)
  refine ev_aload_n dX3_appends_58 rfl ?_
  refine ev_iload dX3_appends_59 rfl ?_
  refine ev_iconstZ dX3_appends_61 ?_
  refine ev_iconstZ dX3_appends_62 ?_
  refine mx_callv dX3_appends_63 cv_X3_137_X3 ce_X3_put hM rfl rfl (k_put (d := d - 1) (by omega) hM (by omega)) (by omega) (Nat.le_of_ble_eq_true rfl) (fun h hM => ?_)
  refine ev_aload_n dX3_appends_66 rfl ?_
  refine ev_iload dX3_appends_67 rfl ?_
  refine ev_iconstZ dX3_appends_69 ?_
  refine ev_iconstZ dX3_appends_70 ?_
  refine mx_callv dX3_appends_71 cv_X3_137_X3 ce_X3_put hM rfl rfl (k_put (d := d - 1) (by omega) hM (by omega)) (by omega) (Nat.le_of_ble_eq_true rfl) (fun h hM => ?_)
  refine ev_return dX3_appends_74 rfl ?_
  exact ⟨rfl, MX.congr2 hM (by intro j _ _; rfl) (by intro j i hj; (try simp only [uS_1, uA_1, uF_1, uS_2, uA_2a, uF_2a, Nat.reduceEqDiff, reduceIte, Int.reduceToNat, Int.toNat_natCast, appA]) <;> grind (splits := 40) [aN1, aN2, aN3, aN4, aN9, aN12, aN21, aN22])⟩
set_option maxRecDepth 100000 in
set_option maxHeartbeats 4000000 in
theorem k_addsDancer (N : Nat) (hN0 : s.2 1 43 = (N : Int)) (hN1 : N < 1000) (D : Nat) (hD0 : s.2 1 44 = (D : Int)) (hD1 : D < 2000) (hN2 : 1 ≤ N) {x : Int} (hM : MX g ad o h0 s h) (hd : 2 ≤ d) : Kc g mX3_addsDancer d 0 0 [.ref o, vz x] h (mR g ad o h0 none (uF s 1 (addA (s.2 1) 4 x))) := by
  refine Kc.of (ls := [some (.ref o), some (vz x), none]) (by decide +kernel) (Nat.le_of_ble_eq_true rfl) rfl ?_
  refine ev_aload_n dX3_addsDancer_0 rfl ?_
  refine mx_getA hM dX3_addsDancer_1 gf_X3_7_X3 rfl ?_
  refine ev_bipushZ dX3_addsDancer_4 rfl ?_
  refine mx_iald hM rfl dX3_addsDancer_6 (by omega) ?_
  try simp only [uS_1, uA_1, uF_1, uS_2, uA_2a, uF_2a, Nat.reduceEqDiff, reduceIte, Int.reduceToNat, Int.toNat_natCast]
  rw [hN0]
  refine ev_iconstZ dX3_addsDancer_7 ?_
  refine ev_isubZ dX3_addsDancer_8 ?_
  refine ev_to (b := ((N - 1 : Nat) : Int)) (by omega) ?_
  refine ev_istore_n dX3_addsDancer_9 (by decide) rfl ?_
  dsimp only [List.set]
  refine ev_aload_n dX3_addsDancer_10 rfl ?_
  refine mx_getA hM dX3_addsDancer_11 gf_X3_7_X3 rfl ?_
  refine ev_sipushZ dX3_addsDancer_14 rfl ?_
  refine ev_aload_n dX3_addsDancer_17 rfl ?_
  refine mx_getA hM dX3_addsDancer_18 gf_X3_7_X3 rfl ?_
  refine ev_bipushZ dX3_addsDancer_21 rfl ?_
  refine mx_iald hM rfl dX3_addsDancer_23 (by omega) ?_
  try simp only [uS_1, uA_1, uF_1, uS_2, uA_2a, uF_2a, Nat.reduceEqDiff, reduceIte, Int.reduceToNat, Int.toNat_natCast]
  rw [hD0]
  refine ev_iaddZ dX3_addsDancer_24 ?_
  refine ev_to (b := ((6645 + D : Nat) : Int)) (by omega) ?_
  refine ev_iload_n dX3_addsDancer_25 rfl ?_
  refine mx_iast hM rfl dX3_addsDancer_26 (by omega) (fun h hM => ?_)
  refine ev_aload_n dX3_addsDancer_27 rfl ?_
  refine mx_getA hM dX3_addsDancer_28 gf_X3_7_X3 rfl ?_
  refine ev_bipushZ dX3_addsDancer_31 rfl ?_
  refine ev_dup2 dX3_addsDancer_33 rfl rfl ?_
  refine mx_iald hM rfl dX3_addsDancer_34 (by omega) ?_
  try simp only [uS_1, uA_1, uF_1, uS_2, uA_2a, uF_2a, Nat.reduceEqDiff, reduceIte, Int.reduceToNat, Int.toNat_natCast]
  rw [if_neg (by omega), hD0]
  refine ev_iconstZ dX3_addsDancer_35 ?_
  refine ev_iaddZ dX3_addsDancer_36 ?_
  refine mx_iast hM rfl dX3_addsDancer_37 (by omega) (fun h hM => ?_)
  refine ev_aload_n dX3_addsDancer_38 rfl ?_
  refine ev_iload_n dX3_addsDancer_39 rfl ?_
  refine ev_iconstZ dX3_addsDancer_40 ?_
  refine ev_aload_n dX3_addsDancer_41 rfl ?_
  refine ev_iload_n dX3_addsDancer_42 rfl ?_
  refine ev_iconstZ dX3_addsDancer_43 ?_
  refine mx_call dX3_addsDancer_44 cv_X3_133_X3 ce_X3_of hM rfl rfl (k_of (d := d - 1) (by omega) hM (by omega)) (by omega) (Nat.le_of_ble_eq_true rfl) (fun h hM => ?_)
  refine ev_iconstZ dX3_addsDancer_47 ?_
  refine ev_iaddZ dX3_addsDancer_48 ?_
  refine mx_callv dX3_addsDancer_49 cv_X3_137_X3 ce_X3_put hM rfl rfl (k_put (d := d - 1) (by omega) hM (by omega)) (by omega) (Nat.le_of_ble_eq_true rfl) (fun h hM => ?_)
  refine ev_return dX3_addsDancer_52 rfl ?_
  exact ⟨rfl, MX.congr2 hM (by intro j _ _; rfl) (by intro j i hj; (try simp only [uS_1, uA_1, uF_1, uS_2, uA_2a, uF_2a, Nat.reduceEqDiff, reduceIte, Int.reduceToNat, Int.toNat_natCast, addA]) <;> grind (splits := 40) [aN1, aN2, aN3, aN4, aN9, aN12, aN21, aN22])⟩
set_option maxRecDepth 100000 in
set_option maxHeartbeats 4000000 in
theorem k_addsStep (N : Nat) (hN0 : s.2 1 43 = (N : Int)) (hN1 : N < 1000) (D : Nat) (hD0 : s.2 1 44 = (D : Int)) (hD1 : D < 2000) (hN2 : 1 ≤ N) {x : Int} (hM : MX g ad o h0 s h) (hd : 2 ≤ d) : Kc g mX3_addsStep d 0 0 [.ref o, vz x] h (mR g ad o h0 none (uF s 1 (addA (s.2 1) 5 x))) := by
  refine Kc.of (ls := [some (.ref o), some (vz x), none]) (by decide +kernel) (Nat.le_of_ble_eq_true rfl) rfl ?_
  refine ev_aload_n dX3_addsStep_0 rfl ?_
  refine mx_getA hM dX3_addsStep_1 gf_X3_7_X3 rfl ?_
  refine ev_bipushZ dX3_addsStep_4 rfl ?_
  refine mx_iald hM rfl dX3_addsStep_6 (by omega) ?_
  try simp only [uS_1, uA_1, uF_1, uS_2, uA_2a, uF_2a, Nat.reduceEqDiff, reduceIte, Int.reduceToNat, Int.toNat_natCast]
  rw [hN0]
  refine ev_iconstZ dX3_addsStep_7 ?_
  refine ev_isubZ dX3_addsStep_8 ?_
  refine ev_to (b := ((N - 1 : Nat) : Int)) (by omega) ?_
  refine ev_istore_n dX3_addsStep_9 (by decide) rfl ?_
  dsimp only [List.set]
  refine ev_aload_n dX3_addsStep_10 rfl ?_
  refine mx_getA hM dX3_addsStep_11 gf_X3_7_X3 rfl ?_
  refine ev_sipushZ dX3_addsStep_14 rfl ?_
  refine ev_aload_n dX3_addsStep_17 rfl ?_
  refine mx_getA hM dX3_addsStep_18 gf_X3_7_X3 rfl ?_
  refine ev_bipushZ dX3_addsStep_21 rfl ?_
  refine mx_iald hM rfl dX3_addsStep_23 (by omega) ?_
  try simp only [uS_1, uA_1, uF_1, uS_2, uA_2a, uF_2a, Nat.reduceEqDiff, reduceIte, Int.reduceToNat, Int.toNat_natCast]
  rw [hD0]
  refine ev_iaddZ dX3_addsStep_24 ?_
  refine ev_to (b := ((6645 + D : Nat) : Int)) (by omega) ?_
  refine ev_iload_n dX3_addsStep_25 rfl ?_
  refine mx_iast hM rfl dX3_addsStep_26 (by omega) (fun h hM => ?_)
  refine ev_aload_n dX3_addsStep_27 rfl ?_
  refine mx_getA hM dX3_addsStep_28 gf_X3_7_X3 rfl ?_
  refine ev_bipushZ dX3_addsStep_31 rfl ?_
  refine ev_dup2 dX3_addsStep_33 rfl rfl ?_
  refine mx_iald hM rfl dX3_addsStep_34 (by omega) ?_
  try simp only [uS_1, uA_1, uF_1, uS_2, uA_2a, uF_2a, Nat.reduceEqDiff, reduceIte, Int.reduceToNat, Int.toNat_natCast]
  rw [if_neg (by omega), hD0]
  refine ev_iconstZ dX3_addsStep_35 ?_
  refine ev_iaddZ dX3_addsStep_36 ?_
  refine mx_iast hM rfl dX3_addsStep_37 (by omega) (fun h hM => ?_)
  refine ev_aload_n dX3_addsStep_38 rfl ?_
  refine ev_iload_n dX3_addsStep_39 rfl ?_
  refine ev_iconstZ dX3_addsStep_40 ?_
  refine ev_aload_n dX3_addsStep_41 rfl ?_
  refine ev_iload_n dX3_addsStep_42 rfl ?_
  refine ev_iconstZ dX3_addsStep_43 ?_
  refine mx_call dX3_addsStep_44 cv_X3_133_X3 ce_X3_of hM rfl rfl (k_of (d := d - 1) (by omega) hM (by omega)) (by omega) (Nat.le_of_ble_eq_true rfl) (fun h hM => ?_)
  refine ev_iconstZ dX3_addsStep_47 ?_
  refine ev_iaddZ dX3_addsStep_48 ?_
  refine mx_callv dX3_addsStep_49 cv_X3_137_X3 ce_X3_put hM rfl rfl (k_put (d := d - 1) (by omega) hM (by omega)) (by omega) (Nat.le_of_ble_eq_true rfl) (fun h hM => ?_)
  refine ev_return dX3_addsStep_52 rfl ?_
  exact ⟨rfl, MX.congr2 hM (by intro j _ _; rfl) (by intro j i hj; (try simp only [uS_1, uA_1, uF_1, uS_2, uA_2a, uF_2a, Nat.reduceEqDiff, reduceIte, Int.reduceToNat, Int.toNat_natCast, addA]) <;> grind (splits := 40) [aN1, aN2, aN3, aN4, aN9, aN12, aN21, aN22])⟩
set_option maxRecDepth 100000 in
set_option maxHeartbeats 4000000 in
theorem k_empties (hd : 1 ≤ d) (hM : MX g ad o h0 s h) : Kc g mX3_empties d 0 0 [.ref o] h (mR g ad o h0 none (empS s)) := by
  refine Kc.of (ls := [some (.ref o), none]) (by decide +kernel) (Nat.le_of_ble_eq_true rfl) rfl ?_
  refine ev_aload_n dX3_empties_0 rfl ?_
  refine ev_iconstZ dX3_empties_1 ?_
  refine mx_putI hM dX3_empties_2 gf_X3_141_X3 rfl (fun h hM => ?_)
  refine ev_aload_n dX3_empties_5 rfl ?_
  refine ev_iconstZ dX3_empties_6 ?_
  refine mx_putI hM dX3_empties_7 gf_X3_144_X3 rfl (fun h hM => ?_)
  refine ev_aload_n dX3_empties_10 rfl ?_
  refine ev_iconstZ dX3_empties_11 ?_
  refine mx_putI hM dX3_empties_12 gf_X3_147_X3 rfl (fun h hM => ?_)
  refine ev_aload_n dX3_empties_15 rfl ?_
  refine ev_iconstZ dX3_empties_16 ?_
  refine mx_putI hM dX3_empties_17 gf_X3_150_X3 rfl (fun h hM => ?_)
  refine ev_iconstZ dX3_empties_20 ?_
  refine ev_istore_n dX3_empties_21 (by decide) rfl ?_
  dsimp only [List.set]
  refine ev_for (800) (fun i h => MX g ad o h0 (uF (uS (uS (uS (uS s 17 0) 18 0) 19 1) 20 0) 21 (fun j => if j < i then 0 else s.2 21 j)) h) (fun i => [some (.ref o), some (vz (i : Int))]) (0) (by omega) (MX.congr2 hM (by intro j _ _; rfl) (by intro j i hj; (try simp only [uS_1, uA_1, uF_1, uS_2, uA_2a, uF_2a, Nat.reduceEqDiff, reduceIte, Int.reduceToNat, Int.toNat_natCast]) <;> grind (splits := 40) [aN1, aN2, aN3, aN4, aN9, aN12, aN21, aN22])) (by repeat' first | exact rfl | exact trivial | exact vz_eq (by omega) | refine And.intro ?_ ?_) (fun i h hi1 hi2 hX hN => ?_) (fun h hX => ?_)
  · clear hM
    have hM : MX g ad o h0 (uF (uS (uS (uS (uS s 17 0) 18 0) 19 1) 20 0) 21 (fun j => if j < i then 0 else s.2 21 j)) h := hX
    clear hX
    refine ev_iload_n dX3_empties_22 rfl ?_
    refine ev_sipushZ dX3_empties_23 rfl ?_
    refine ev_icmp_geZ (tgt := 42) dX3_empties_26 (by decide) (by omega) (by omega) (fun c26 => absurd c26 (by omega)) (fun c26 => ?_)
    refine ev_aload_n dX3_empties_29 rfl ?_
    refine mx_getA hM dX3_empties_30 gf_X3_36_X3 rfl ?_
    refine ev_iload_n dX3_empties_33 rfl ?_
    refine ev_iconstZ dX3_empties_34 ?_
    refine mx_iast hM rfl dX3_empties_35 (by omega) (fun h hM => ?_)
    refine ev_iincZ dX3_empties_36 rfl (by decide) rfl ?_
    dsimp only [List.set]
    refine ev_goto (tgt := 22) dX3_empties_39 (by decide) ?_
    exact hN _ _ (by repeat' first | exact rfl | exact trivial | exact vz_eq (by omega) | refine And.intro ?_ ?_) (MX.congr2 hM (by intro j _ _; rfl) (by intro j i hj; (try simp only [uS_1, uA_1, uF_1, uS_2, uA_2a, uF_2a, Nat.reduceEqDiff, reduceIte, Int.reduceToNat, Int.toNat_natCast]) <;> grind (splits := 40) [aN1, aN2, aN3, aN4, aN9, aN12, aN21, aN22]))
  · clear hM
    have hM : MX g ad o h0 (uF (uS (uS (uS (uS s 17 0) 18 0) 19 1) 20 0) 21 (fun j => if j < 800 then 0 else s.2 21 j)) h := hX
    clear hX
    refine ev_iload_n dX3_empties_22 rfl ?_
    refine ev_sipushZ dX3_empties_23 rfl ?_
    refine ev_icmp_geZ (tgt := 42) dX3_empties_26 (by decide) (by omega) (by omega) (fun c26 => ?_) (fun c26 => absurd (by omega) c26)
    refine ev_iconstZ dX3_empties_42 ?_
    refine ev_istore_n dX3_empties_43 (by decide) rfl ?_
    dsimp only [List.set]
    refine ev_for (100) (fun i h => MX g ad o h0 (uF (uF (uS (uS (uS (uS s 17 0) 18 0) 19 1) 20 0) 21 (fun j => 0)) 22 (fun j => if j < i then 0 else s.2 22 j)) h) (fun i => [some (.ref o), some (vz (i : Int))]) (0) (by omega) (MX.congr2 hM (by intro j _ _; rfl) (by intro j i hj; (try simp only [uS_1, uA_1, uF_1, uS_2, uA_2a, uF_2a, Nat.reduceEqDiff, reduceIte, Int.reduceToNat, Int.toNat_natCast]) <;> grind (splits := 40) [aN1, aN2, aN3, aN4, aN9, aN12, aN21, aN22])) (by repeat' first | exact rfl | exact trivial | exact vz_eq (by omega) | refine And.intro ?_ ?_) (fun i h hi1 hi2 hX hN => ?_) (fun h hX => ?_)
    · clear hM
      have hM : MX g ad o h0 (uF (uF (uS (uS (uS (uS s 17 0) 18 0) 19 1) 20 0) 21 (fun j => 0)) 22 (fun j => if j < i then 0 else s.2 22 j)) h := hX
      clear hX
      refine ev_iload_n dX3_empties_44 rfl ?_
      refine ev_bipushZ dX3_empties_45 rfl ?_
      refine ev_icmp_geZ (tgt := 63) dX3_empties_47 (by decide) (by omega) (by omega) (fun c47 => absurd c47 (by omega)) (fun c47 => ?_)
      refine ev_aload_n dX3_empties_50 rfl ?_
      refine mx_getA hM dX3_empties_51 gf_X3_39_X3 rfl ?_
      refine ev_iload_n dX3_empties_54 rfl ?_
      refine ev_iconstZ dX3_empties_55 ?_
      refine mx_iast hM rfl dX3_empties_56 (by omega) (fun h hM => ?_)
      refine ev_iincZ dX3_empties_57 rfl (by decide) rfl ?_
      dsimp only [List.set]
      refine ev_goto (tgt := 44) dX3_empties_60 (by decide) ?_
      exact hN _ _ (by repeat' first | exact rfl | exact trivial | exact vz_eq (by omega) | refine And.intro ?_ ?_) (MX.congr2 hM (by intro j _ _; rfl) (by intro j i hj; (try simp only [uS_1, uA_1, uF_1, uS_2, uA_2a, uF_2a, Nat.reduceEqDiff, reduceIte, Int.reduceToNat, Int.toNat_natCast]) <;> grind (splits := 40) [aN1, aN2, aN3, aN4, aN9, aN12, aN21, aN22]))
    · clear hM
      have hM : MX g ad o h0 (uF (uF (uS (uS (uS (uS s 17 0) 18 0) 19 1) 20 0) 21 (fun j => 0)) 22 (fun j => if j < 100 then 0 else s.2 22 j)) h := hX
      clear hX
      refine ev_iload_n dX3_empties_44 rfl ?_
      refine ev_bipushZ dX3_empties_45 rfl ?_
      refine ev_icmp_geZ (tgt := 63) dX3_empties_47 (by decide) (by omega) (by omega) (fun c47 => ?_) (fun c47 => absurd (by omega) c47)
      refine ev_return dX3_empties_63 rfl ?_
      exact ⟨rfl, MX.congr2 hM (by intro j _ _; rfl) (by intro j i hj; (try simp only [uS_1, uA_1, uF_1, uS_2, uA_2a, uF_2a, Nat.reduceEqDiff, reduceIte, Int.reduceToNat, Int.toNat_natCast, empS]) <;> grind (splits := 40) [aN1, aN2, aN3, aN4, aN9, aN12, aN21, aN22])⟩
set_option maxRecDepth 100000 in
set_option maxHeartbeats 4000000 in
theorem k_refuses {r : Int} {x : Int} (hd : 1 ≤ d) (hM : MX g ad o h0 s h) (hp : inR (s.1 15)) : Kc g mX3_refuses d 0 0 [.ref o, vz r, vz x] h (mR g ad o h0 none (refS s r x)) := by
  refine Kc.of (ls := [some (.ref o), some (vz r), some (vz x)]) (by decide +kernel) (Nat.le_of_ble_eq_true rfl) rfl ?_
  refine ev_aload_n dX3_refuses_0 rfl ?_
  refine mx_getI hM dX3_refuses_1 gf_X3_153_X3 rfl ?_
  refine ev_if_leZ (tgt := 8) dX3_refuses_4 (by decide) (by omega) (fun c4 => ?_) (fun c4 => ?_)
  · refine ev_aload_n dX3_refuses_8 rfl ?_
    refine ev_iload_n dX3_refuses_9 rfl ?_
    refine mx_putI hM dX3_refuses_10 gf_X3_153_X3 rfl (fun h hM => ?_)
    refine ev_aload_n dX3_refuses_13 rfl ?_
    refine ev_iload_n dX3_refuses_14 rfl ?_
    refine mx_putI hM dX3_refuses_15 gf_X3_156_X3 rfl (fun h hM => ?_)
    refine ev_return dX3_refuses_18 rfl ?_
    exact ⟨rfl, by unfold refS; rw [if_neg (by omega)]; exact hM⟩
  · refine ev_return dX3_refuses_7 rfl ?_
    exact ⟨rfl, by unfold refS; rw [if_pos (by omega)]; exact hM⟩
theorem low_f : ∀ n : Fin 256, n.val ≠ 0 → low n.val < 8 ∧ (n.val >>> low n.val) &&& 1 = 1 ∧ ∀ i : Fin 8, i.val < low n.val → (n.val >>> i.val) &&& 1 = 0 := by decide +kernel
set_option maxRecDepth 100000 in
set_option maxHeartbeats 4000000 in
theorem k_lowest {n : Nat} (hn : n < 256) (hz : n ≠ 0) (hd : 1 ≤ d) : Kc g mX3_lowest d 0 0 [vz (n : Int)] h (sR (some (vz ((low n : Nat) : Int))) h) := by
  refine Kc.of (ls := [some (vz (n : Int)), none]) (by decide +kernel) (Nat.le_of_ble_eq_true rfl) rfl ?_
  obtain ⟨l1, l2, l3⟩ := low_f ⟨n, hn⟩ hz
  dsimp only at l1 l2 l3
  refine ev_iconstZ dX3_lowest_0 ?_
  refine ev_istore_n dX3_lowest_1 (by decide) rfl ?_
  dsimp only [List.set]
  refine ev_for (low n) (fun _ h1 => h1 = h) (fun i => [some (vz (n : Int)), some (vz (i : Int))]) 0 (by omega) rfl (by repeat' first | exact rfl | exact trivial | exact vz_eq (by omega) | refine And.intro ?_ ?_) (fun i h1 hi1 hi2 hX hN => ?_) (fun h1 hX => ?_)
  · subst hX
    refine ev_iload_n dX3_lowest_2 rfl ?_
    refine ev_iload_n dX3_lowest_3 rfl ?_
    refine ev_ishrZ dX3_lowest_4 (by omega) (by omega) ?_
    refine ev_iconstZ dX3_lowest_5 ?_
    refine ev_iandZ (b := 1) dX3_lowest_6 (Nat.lt_of_le_of_lt (Nat.shiftRight_le _ _) (by omega)) (by omega) ?_
    refine ev_if_neZ (tgt := 16) dX3_lowest_7 (by decide) (by have := (n >>> i &&& 1); have := @Nat.and_le_right (n >>> i) 1; omega) (fun c7 => ?_) (fun c7 => ?_)
    · exact absurd (by rw [l3 ⟨i, by omega⟩ hi2]; rfl) c7
    · refine ev_iincZ dX3_lowest_10 rfl (by decide) rfl ?_
      dsimp only [List.set]
      refine ev_goto (tgt := 2) dX3_lowest_13 (by decide) ?_
      exact hN _ _ (by repeat' first | exact rfl | exact trivial | exact vz_eq (by omega) | refine And.intro ?_ ?_) rfl
  · subst hX
    refine ev_iload_n dX3_lowest_2 rfl ?_
    refine ev_iload_n dX3_lowest_3 rfl ?_
    refine ev_ishrZ dX3_lowest_4 (by omega) (by omega) ?_
    refine ev_iconstZ dX3_lowest_5 ?_
    refine ev_iandZ (b := 1) dX3_lowest_6 (Nat.lt_of_le_of_lt (Nat.shiftRight_le _ _) (by omega)) (by omega) ?_
    refine ev_if_neZ (tgt := 16) dX3_lowest_7 (by decide) (by have := @Nat.and_le_right (n >>> low n) 1; omega) (fun c7 => ?_) (fun c7 => ?_)
    · refine ev_iload_n dX3_lowest_16 rfl ?_
      refine ev_ireturn dX3_lowest_17 rfl ?_
      exact ⟨rfl, rfl⟩
    · exact absurd c7 (by rw [l2]; decide)
end M2

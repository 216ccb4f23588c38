/-! the reference: places of the performance (printed by gen) -/
section Q1
variable {g : GB} {M : MI} {d c k : Nat} {Q : RS → HM → Prop} {pc : Nat} {ls : List (Option Value)} {st : List Value} {h : HM} {a b : Int} {ad : Nat → Nat} {o : Nat} {h0 : HM} {s : MSt}
/-- column and row at the start, as the program has them (of somebody who takes no part too) -/
def c0 (D : Dn) (e : Nat) : Int := if D.2.1 e = -1 then -1 else D.2.1 e % D.1.1
def r0 (D : Dn) (e : Nat) : Int := if D.2.1 e = -1 then 0 else D.2.1 e / D.1.1
def posC (D : Dn) (P : Pt) (e k : Nat) : Int := c0 D e + mvS P e false k
def posR (D : Dn) (P : Pt) (e k : Nat) : Int := r0 D e + mvS P e true k
theorem rem_m1 : ∀ c : Fin 10, 2 ≤ c.val → zI (-1) - zI (-1) / zI (c.val : Nat) * zI (c.val : Nat) = zI (-1) := by decide +kernel
theorem div_m1 : ∀ c : Fin 10, 2 ≤ c.val → zI (-1) / zI (c.val : Nat) = zI 0 := by decide +kernel
theorem ev_iremM {x c1 : Nat} {a : Int} (hd : decode M.2.1 pc = .ok (.irem, 1)) (h2 : 2 ≤ c1) (h9 : c1 ≤ 9) (ha : -1 ≤ a ∧ a < 100) (kk : Ev g M d c k Q (pc + 1) ls (vz (if a = -1 then -1 else a % c1) :: st) h) : Ev g M d c k Q pc ls (vz (c1 : Int) :: vz a :: st) h := by
  by_cases e : a = -1
  · subst e
    rw [if_pos rfl] at kk
    exact ev_irem hd (fun q => by rw [zI_eq0 (by omega)] at q; omega) (by rw [rem_m1 ⟨c1, by omega⟩ h2]; exact kk)
  · rw [if_neg e] at kk
    exact ev_iremZ hd (by omega) (by omega) (by omega) (by omega) kk
theorem ev_idivM {x c1 : Nat} {a : Int} (hd : decode M.2.1 pc = .ok (.idiv, 1)) (h2 : 2 ≤ c1) (h9 : c1 ≤ 9) (ha : -1 ≤ a ∧ a < 100) (kk : Ev g M d c k Q (pc + 1) ls (vz (if a = -1 then 0 else a / c1) :: st) h) : Ev g M d c k Q pc ls (vz (c1 : Int) :: vz a :: st) h := by
  by_cases e : a = -1
  · subst e
    rw [if_pos rfl] at kk
    exact ev_idiv hd (fun q => by rw [zI_eq0 (by omega)] at q; omega) (by rw [div_m1 ⟨c1, by omega⟩ h2]; exact kk)
  · rw [if_neg e] at kk
    exact ev_idivZ hd (by omega) (by omega) (by omega) (by omega) kk
def plAt (s : MSt) (D : Dn) (P : Pt) : Prop := ∀ e k : Nat, e < 8 → k ≤ P.1.1 → s.2 40 (100 * e + k) = posC D P e k ∧ s.2 41 (100 * e + k) = posR D P e k
theorem st_lt {D : Dn} (hO : dnOk D) {e : Nat} (he : e < 8) : -1 ≤ D.2.1 e ∧ D.2.1 e < 100 := by
  have h := hO.2.2.2.2.1.1 e he
  have hcr : (D.1.1 : Int) * D.1.2 ≤ 9 * 9 := Int.mul_le_mul (by have := hO.2.1; omega) (by have := hO.2.2.2.1; omega) (by omega) (by omega)
  omega
theorem c0_le {D : Dn} (hO : dnOk D) {e : Nat} (he : e < 8) : -1 ≤ c0 D e ∧ c0 D e ≤ 100 ∧ 0 ≤ r0 D e ∧ r0 D e ≤ 100 := by
  have h := st_lt hO he
  have h2 := hO.1
  unfold c0 r0
  by_cases q : D.2.1 e = -1
  · rw [if_pos q, if_pos q]; decide
  · rw [if_neg q, if_neg q]
    have m1 := Int.emod_nonneg (D.2.1 e) (b := (D.1.1 : Int)) (by omega)
    have m2 := Int.emod_lt_of_pos (D.2.1 e) (b := (D.1.1 : Int)) (by omega)
    have m3 := Int.ediv_nonneg (a := D.2.1 e) (b := (D.1.1 : Int)) (by omega) (by omega)
    have m4 := Int.ediv_le_self (a := D.2.1 e) (D.1.1 : Int) (by omega)
    have := hO.2.1
    omega
theorem pos_le {D : Dn} (hO : dnOk D) (P : Pt) {e : Nat} (he : e < 8) {k : Nat} (hk : k ≤ 100) : -200 ≤ posC D P e k ∧ posC D P e k ≤ 300 ∧ -200 ≤ posR D P e k ∧ posR D P e k ≤ 300 := by
  have h := c0_le hO he
  have a := mvS_le P e false k
  have b := mvS_le P e true k
  unfold posC posR
  omega
theorem uA40 (s : MSt) (A B : Nat → Int) (i : Nat) (x : Int) : uA (uF (uF s 40 A) 41 B) 40 i x = uF (uF s 40 (uz A i x)) 41 B := by
  unfold uA uF
  congr 1
  funext j
  simp only [uz]
  by_cases h1 : j = 40
  · subst h1; simp
  · by_cases h2 : j = 41
    · subst h2; simp
    · simp [h1, h2]
theorem pl_step {A B : Nat → Int} {D : Dn} {P : Pt} {i j : Nat} (hi : i < 8) (h : ∀ e q : Nat, e < 8 → q ≤ P.1.1 → (e < i ∨ (e = i ∧ q < j)) → A (100 * e + q) = posC D P e q ∧ B (100 * e + q) = posR D P e q) (hs : P.1.1 ≤ 99 := by omega) (hj : j ≤ 99 := by omega) : ∀ e q : Nat, e < 8 → q ≤ P.1.1 → (e < i ∨ (e = i ∧ q < j + 1)) → uz A (100 * i + j) (posC D P i j) (100 * e + q) = posC D P e q ∧ uz B (100 * i + j) (posR D P i j) (100 * e + q) = posR D P e q := by
  intro e q he hq hc
  unfold uz
  by_cases c : e = i ∧ q = j
  · obtain ⟨rfl, rfl⟩ := c
    rw [if_pos rfl, if_pos rfl]
    exact ⟨rfl, rfl⟩
  · rw [if_neg (by omega), if_neg (by omega)]
    exact h e q he hq (by omega)
set_option maxRecDepth 100000 in
set_option maxHeartbeats 4000000 in
theorem k_places {D : Dn} {P : Pt} (hM : MX g ad o h0 s h) (hD : dnAt (s.2 1) D) (hO : dnOk D) (hk : knAt s (.ok P)) (hd : 2 ≤ d) : Kc g mX3_places d 0 0 [.ref o] h (mP g ad o h0 (fun v s' => v = none ∧ fr s s' [] [40, 41] ∧ plAt s' D P)) := by
  refine Kc.of (ls := [some (.ref o), none, none]) (by decide +kernel) (Nat.le_of_ble_eq_true rfl) rfl ?_
  have k17 := hk.ok.2.1.1
  have hsb := hk.ok.2.2.1
  refine ev_iconstZ dX3_places_0 ?_
  refine ev_istore_n dX3_places_1 (by decide) rfl ?_
  dsimp only [List.set]
  refine ev_for 8 (fun i h => ∃ A B : Nat → Int, MX g ad o h0 (uF (uF s 40 A) 41 B) h ∧ ∀ e q : Nat, e < 8 → q ≤ P.1.1 → e < i → A (100 * e + q) = posC D P e q ∧ B (100 * e + q) = posR D P e q) (fun i => [some (.ref o), some (vz (i : Int)), none]) 0 (by omega) ⟨s.2 40, s.2 41, by exact MX.congr2 hM (by intro j _ _; rfl) (by intro j i hj; simp only [uS_1, uA_1, uF_1, uS_2, uA_2a, uF_2a, Nat.reduceEqDiff, reduceIte, Int.reduceToNat, Int.toNat_natCast]; grind), fun e q he hq hc => by omega⟩ (by repeat' first | exact rfl | exact trivial | exact vz_eq (by omega) | refine And.intro ?_ ?_) (fun i h hi1 hi2 hX hN => ?_) (fun h hX => ?_)
  · clear hM
    obtain ⟨A, B, hM, hAB⟩ := hX
    refine ev_iload_n dX3_places_2 rfl ?_
    refine ev_bipushZ dX3_places_3 rfl ?_
    refine ev_icmp_geZ (tgt := 156) dX3_places_5 (by decide) (by omega) (by omega) (fun c => absurd c (by omega)) (fun _ => ?_)
    refine ev_iconstZ dX3_places_8 ?_
    refine ev_istore_n dX3_places_9 (by decide) rfl ?_
    dsimp only [List.set]
    refine ev_for (P.1.1 + 1) (fun j h => ∃ A B : Nat → Int, MX g ad o h0 (uF (uF s 40 A) 41 B) h ∧ ∀ e q : Nat, e < 8 → q ≤ P.1.1 → (e < i ∨ (e = i ∧ q < j)) → A (100 * e + q) = posC D P e q ∧ B (100 * e + q) = posR D P e q) (fun j => [some (.ref o), some (vz (i : Int)), some (vz (j : Int))]) 0 (by omega) ⟨A, B, hM, fun e q he hq hc => hAB e q he hq (by omega)⟩ (by repeat' first | exact rfl | exact trivial | exact vz_eq (by omega) | refine And.intro ?_ ?_) (fun j h hj1 hj2 hX hN2 => ?_) (fun h hX => ?_)
    · clear hM hAB
      obtain ⟨A, B, hM, hAB⟩ := hX
      by_cases hj0 : j = 0
      · refine ev_iload_n dX3_places_10 rfl ?_
        refine ev_aload_n dX3_places_11 rfl ?_
        refine mx_getI hM dX3_places_12 gf_X3_141_X3 rfl ?_
        try simp only [uS_1, uA_1, uF_1, uS_2, uA_2a, uF_2a, Nat.reduceEqDiff, reduceIte, Int.reduceToNat, Int.toNat_natCast]
        rw [k17]
        refine ev_icmp_gtZ (tgt := 150) dX3_places_15 (by decide) (by omega) (by omega) (fun c => absurd c (by omega)) (fun _ => ?_)
        refine ev_aload_n dX3_places_18 rfl ?_
        refine mx_getA hM dX3_places_19 gf_X3_83_X3 rfl ?_
        refine ev_bipushZ dX3_places_22 rfl ?_
        refine ev_iload_n dX3_places_24 rfl ?_
        refine ev_imulZ dX3_places_25 ?_
        refine ev_iload_n dX3_places_26 rfl ?_
        refine ev_iaddZ dX3_places_27 ?_
        refine ev_to (b := ((100 * i + j : Nat) : Int)) (by omega) ?_
        refine ev_iload_n dX3_places_28 rfl ?_
        refine ev_if_neZ (tgt := 50) dX3_places_29 (by decide) (by omega) (fun c => absurd (by omega) c) (fun _ => ?_)
        refine ev_aload_n dX3_places_32 rfl ?_
        refine mx_getA hM dX3_places_33 gf_X3_7_X3 rfl ?_
        refine ev_iconstZ dX3_places_36 ?_
        refine ev_iload_n dX3_places_37 rfl ?_
        refine ev_iaddZ dX3_places_38 ?_
        refine ev_to (b := ((2 + i : Nat) : Int)) (by omega) ?_
        refine mx_iald hM rfl dX3_places_39 (by omega) ?_
        try simp only [uS_1, uA_1, uF_1, uS_2, uA_2a, uF_2a, Nat.reduceEqDiff, reduceIte, Int.reduceToNat, Int.toNat_natCast]
        rw [hD.2.2.1 i hi2]
        refine ev_aload_n dX3_places_40 rfl ?_
        refine mx_getA hM dX3_places_41 gf_X3_7_X3 rfl ?_
        refine ev_iconstZ dX3_places_44 ?_
        refine mx_iald hM rfl dX3_places_45 (by omega) ?_
        try simp only [uS_1, uA_1, uF_1, uS_2, uA_2a, uF_2a, Nat.reduceEqDiff, reduceIte, Int.reduceToNat, Int.toNat_natCast]
        rw [hD.1]
        refine ev_iremM (x := 0) dX3_places_46 hO.1 hO.2.1 (st_lt hO hi2) ?_
        refine ev_to (b := (posC D P i j)) (by subst hj0; simp [posC, c0, mvS]) ?_
        refine ev_goto (tgt := 80) dX3_places_47 (by decide) ?_
        refine mx_iast hM rfl dX3_places_80 (by omega) (fun h hM => ?_)
        rw [uA40, Int.toNat_natCast] at hM
        refine ev_aload_n dX3_places_81 rfl ?_
        refine mx_getA hM dX3_places_82 gf_X3_86_X3 rfl ?_
        refine ev_bipushZ dX3_places_85 rfl ?_
        refine ev_iload_n dX3_places_87 rfl ?_
        refine ev_imulZ dX3_places_88 ?_
        refine ev_iload_n dX3_places_89 rfl ?_
        refine ev_iaddZ dX3_places_90 ?_
        refine ev_to (b := ((100 * i + j : Nat) : Int)) (by omega) ?_
        refine ev_iload_n dX3_places_91 rfl ?_
        refine ev_if_neZ (tgt := 113) dX3_places_92 (by decide) (by omega) (fun c => absurd (by omega) c) (fun _ => ?_)
        refine ev_aload_n dX3_places_95 rfl ?_
        refine mx_getA hM dX3_places_96 gf_X3_7_X3 rfl ?_
        refine ev_iconstZ dX3_places_99 ?_
        refine ev_iload_n dX3_places_100 rfl ?_
        refine ev_iaddZ dX3_places_101 ?_
        refine ev_to (b := ((2 + i : Nat) : Int)) (by omega) ?_
        refine mx_iald hM rfl dX3_places_102 (by omega) ?_
        try simp only [uS_1, uA_1, uF_1, uS_2, uA_2a, uF_2a, Nat.reduceEqDiff, reduceIte, Int.reduceToNat, Int.toNat_natCast]
        rw [hD.2.2.1 i hi2]
        refine ev_aload_n dX3_places_103 rfl ?_
        refine mx_getA hM dX3_places_104 gf_X3_7_X3 rfl ?_
        refine ev_iconstZ dX3_places_107 ?_
        refine mx_iald hM rfl dX3_places_108 (by omega) ?_
        try simp only [uS_1, uA_1, uF_1, uS_2, uA_2a, uF_2a, Nat.reduceEqDiff, reduceIte, Int.reduceToNat, Int.toNat_natCast]
        rw [hD.1]
        refine ev_idivM (x := 0) dX3_places_109 hO.1 hO.2.1 (st_lt hO hi2) ?_
        refine ev_to (b := (posR D P i j)) (by subst hj0; simp [posR, r0, mvS]) ?_
        refine ev_goto (tgt := 143) dX3_places_110 (by decide) ?_
        refine mx_iast hM rfl dX3_places_143 (by omega) (fun h hM => ?_)
        rw [uA_uF, Int.toNat_natCast] at hM
        refine ev_iincZ dX3_places_144 rfl (by decide) rfl ?_
        dsimp only [List.set]
        refine ev_goto (tgt := 10) dX3_places_147 (by decide) ?_
        exact hN2 _ _ (by repeat' first | exact rfl | exact trivial | exact vz_eq (by omega) | refine And.intro ?_ ?_) ⟨_, _, hM, pl_step hi2 hAB⟩
      · refine ev_iload_n dX3_places_10 rfl ?_
        refine ev_aload_n dX3_places_11 rfl ?_
        refine mx_getI hM dX3_places_12 gf_X3_141_X3 rfl ?_
        try simp only [uS_1, uA_1, uF_1, uS_2, uA_2a, uF_2a, Nat.reduceEqDiff, reduceIte, Int.reduceToNat, Int.toNat_natCast]
        rw [k17]
        refine ev_icmp_gtZ (tgt := 150) dX3_places_15 (by decide) (by omega) (by omega) (fun c => absurd c (by omega)) (fun _ => ?_)
        refine ev_aload_n dX3_places_18 rfl ?_
        refine mx_getA hM dX3_places_19 gf_X3_83_X3 rfl ?_
        refine ev_bipushZ dX3_places_22 rfl ?_
        refine ev_iload_n dX3_places_24 rfl ?_
        refine ev_imulZ dX3_places_25 ?_
        refine ev_iload_n dX3_places_26 rfl ?_
        refine ev_iaddZ dX3_places_27 ?_
        refine ev_to (b := ((100 * i + j : Nat) : Int)) (by omega) ?_
        refine ev_iload_n dX3_places_28 rfl ?_
        refine ev_if_neZ (tgt := 50) dX3_places_29 (by decide) (by omega) (fun _ => ?_) (fun c => absurd (by omega) hj0)
        refine ev_aload_n dX3_places_50 rfl ?_
        refine mx_getA hM dX3_places_51 gf_X3_83_X3 rfl ?_
        refine ev_bipushZ dX3_places_54 rfl ?_
        refine ev_iload_n dX3_places_56 rfl ?_
        refine ev_imulZ dX3_places_57 ?_
        refine ev_iload_n dX3_places_58 rfl ?_
        refine ev_iaddZ dX3_places_59 ?_
        refine ev_iconstZ dX3_places_60 ?_
        refine ev_isubZ dX3_places_61 ?_
        refine ev_to (b := ((100 * i + (j - 1) : Nat) : Int)) (by omega) ?_
        refine mx_iald hM rfl dX3_places_62 (by omega) ?_
        try simp only [uS_1, uA_1, uF_1, uS_2, uA_2a, uF_2a, Nat.reduceEqDiff, reduceIte, Int.reduceToNat, Int.toNat_natCast]
        rw [(hAB i (j - 1) hi2 (by omega) (Or.inr ⟨rfl, by omega⟩)).1]
        refine ev_aload_n dX3_places_63 rfl ?_
        refine mx_getA hM dX3_places_64 gf_X3_36_X3 rfl ?_
        refine ev_bipushZ dX3_places_67 rfl ?_
        refine ev_iload_n dX3_places_69 rfl ?_
        refine ev_imulZ dX3_places_70 ?_
        refine ev_iload_n dX3_places_71 rfl ?_
        refine ev_iaddZ dX3_places_72 ?_
        refine ev_iconstZ dX3_places_73 ?_
        refine ev_isubZ dX3_places_74 ?_
        refine ev_to (b := ((100 * i + (j - 1) : Nat) : Int)) (by omega) ?_
        refine mx_iald hM rfl dX3_places_75 (by omega) ?_
        try simp only [uS_1, uA_1, uF_1, uS_2, uA_2a, uF_2a, Nat.reduceEqDiff, reduceIte, Int.reduceToNat, Int.toNat_natCast]
        rw [(hk.stp hi2 (show j - 1 < 100 by omega)).1]
        refine ev_callSE dX3_places_76 cs_X3_329 ce_X3_across rfl rfl (k_across (d := d - 1) (by omega) (by have := (hk.stp hi2 (show j - 1 < 100 by omega)).2; omega)) (by omega) (Nat.le_of_ble_eq_true rfl) ?_
        refine ev_iaddZ dX3_places_79 ?_
        refine ev_to (b := (posC D P i j)) (by have e : mvS P i false (j - 1 + 1) = mvS P i false (j - 1) + acr (P.2.1 i (j - 1) : Nat) := rfl; rw [show j - 1 + 1 = j by omega] at e; unfold posC; rw [e]; omega) ?_
        refine mx_iast hM rfl dX3_places_80 (by omega) (fun h hM => ?_)
        rw [uA40, Int.toNat_natCast] at hM
        refine ev_aload_n dX3_places_81 rfl ?_
        refine mx_getA hM dX3_places_82 gf_X3_86_X3 rfl ?_
        refine ev_bipushZ dX3_places_85 rfl ?_
        refine ev_iload_n dX3_places_87 rfl ?_
        refine ev_imulZ dX3_places_88 ?_
        refine ev_iload_n dX3_places_89 rfl ?_
        refine ev_iaddZ dX3_places_90 ?_
        refine ev_to (b := ((100 * i + j : Nat) : Int)) (by omega) ?_
        refine ev_iload_n dX3_places_91 rfl ?_
        refine ev_if_neZ (tgt := 113) dX3_places_92 (by decide) (by omega) (fun _ => ?_) (fun c => absurd (by omega) hj0)
        refine ev_aload_n dX3_places_113 rfl ?_
        refine mx_getA hM dX3_places_114 gf_X3_86_X3 rfl ?_
        refine ev_bipushZ dX3_places_117 rfl ?_
        refine ev_iload_n dX3_places_119 rfl ?_
        refine ev_imulZ dX3_places_120 ?_
        refine ev_iload_n dX3_places_121 rfl ?_
        refine ev_iaddZ dX3_places_122 ?_
        refine ev_iconstZ dX3_places_123 ?_
        refine ev_isubZ dX3_places_124 ?_
        refine ev_to (b := ((100 * i + (j - 1) : Nat) : Int)) (by omega) ?_
        refine mx_iald hM rfl dX3_places_125 (by omega) ?_
        try simp only [uS_1, uA_1, uF_1, uS_2, uA_2a, uF_2a, Nat.reduceEqDiff, reduceIte, Int.reduceToNat, Int.toNat_natCast]
        rw [(hAB i (j - 1) hi2 (by omega) (Or.inr ⟨rfl, by omega⟩)).2]
        refine ev_aload_n dX3_places_126 rfl ?_
        refine mx_getA hM dX3_places_127 gf_X3_36_X3 rfl ?_
        refine ev_bipushZ dX3_places_130 rfl ?_
        refine ev_iload_n dX3_places_132 rfl ?_
        refine ev_imulZ dX3_places_133 ?_
        refine ev_iload_n dX3_places_134 rfl ?_
        refine ev_iaddZ dX3_places_135 ?_
        refine ev_iconstZ dX3_places_136 ?_
        refine ev_isubZ dX3_places_137 ?_
        refine ev_to (b := ((100 * i + (j - 1) : Nat) : Int)) (by omega) ?_
        refine mx_iald hM rfl dX3_places_138 (by omega) ?_
        try simp only [uS_1, uA_1, uF_1, uS_2, uA_2a, uF_2a, Nat.reduceEqDiff, reduceIte, Int.reduceToNat, Int.toNat_natCast]
        rw [(hk.stp hi2 (show j - 1 < 100 by omega)).1]
        refine ev_callSE dX3_places_139 cs_X3_326 ce_X3_along rfl rfl (k_along (d := d - 1) (by omega) (by have := (hk.stp hi2 (show j - 1 < 100 by omega)).2; omega)) (by omega) (Nat.le_of_ble_eq_true rfl) ?_
        refine ev_iaddZ dX3_places_142 ?_
        refine ev_to (b := (posR D P i j)) (by have e : mvS P i true (j - 1 + 1) = mvS P i true (j - 1) + alo (P.2.1 i (j - 1) : Nat) := rfl; rw [show j - 1 + 1 = j by omega] at e; unfold posR; rw [e]; omega) ?_
        refine mx_iast hM rfl dX3_places_143 (by omega) (fun h hM => ?_)
        rw [uA_uF, Int.toNat_natCast] at hM
        refine ev_iincZ dX3_places_144 rfl (by decide) rfl ?_
        dsimp only [List.set]
        refine ev_goto (tgt := 10) dX3_places_147 (by decide) ?_
        exact hN2 _ _ (by repeat' first | exact rfl | exact trivial | exact vz_eq (by omega) | refine And.intro ?_ ?_) ⟨_, _, hM, pl_step hi2 hAB⟩
    · clear hM hAB
      obtain ⟨A, B, hM, hAB⟩ := hX
      refine ev_iload_n dX3_places_10 rfl ?_
      refine ev_aload_n dX3_places_11 rfl ?_
      refine mx_getI hM dX3_places_12 gf_X3_141_X3 rfl ?_
      try simp only [uS_1, uA_1, uF_1, uS_2, uA_2a, uF_2a, Nat.reduceEqDiff, reduceIte, Int.reduceToNat, Int.toNat_natCast]
      rw [k17]
      refine ev_icmp_gtZ (tgt := 150) dX3_places_15 (by decide) (by omega) (by omega) (fun _ => ?_) (fun c => absurd (by omega) c)
      refine ev_iincZ dX3_places_150 rfl (by decide) rfl ?_
      dsimp only [List.set]
      refine ev_goto (tgt := 2) dX3_places_153 (by decide) ?_
      exact hN _ _ (by repeat' first | exact rfl | exact trivial | exact vz_eq (by omega) | refine And.intro ?_ ?_) ⟨_, _, hM, fun e q he hq hc => hAB e q he hq (by omega)⟩
  · clear hM
    obtain ⟨A, B, hM, hAB⟩ := hX
    refine ev_iload_n dX3_places_2 rfl ?_
    refine ev_bipushZ dX3_places_3 rfl ?_
    refine ev_icmp_geZ (tgt := 156) dX3_places_5 (by decide) (by omega) (by omega) (fun _ => ?_) (fun c => absurd (by omega) c)
    refine ev_return dX3_places_156 rfl ?_
    refine ⟨none, _, rfl, ⟨rfl, fr.F (fr.F (fr.refl _ _ _) rfl) rfl, fun e q he hq => ?_⟩, hM⟩
    simp only [uS_1, uA_1, uF_1, uS_2, uA_2a, uF_2a, Nat.reduceEqDiff, reduceIte, Int.reduceToNat, Int.toNat_natCast]
    exact hAB e q he hq he
def same (D : Dn) (P : Pt) (d k e j : Nat) : Bool := decide (posC D P d k = posC D P e j ∧ posR D P d k = posR D P e j)
def isPr (D : Dn) (P : Pt) (k q d e : Nat) : Bool := if q = 4 then decide (k = 0) && (P.1.2.1.testBit d && !tkB D d) else tkB D d && (if q = 1 then !(decide (0 ≤ posC D P d k ∧ posC D P d k ≤ D.1.1 - 1) && decide (0 ≤ posR D P d k ∧ posR D P d k ≤ D.1.2 - 1)) else tkB D e && (if q = 2 then same D P d k e k else decide (0 < k) && (!same D P d (k - 1) e (k - 1) && (same D P d k e (k - 1) && same D P d (k - 1) e k))))
set_option maxRecDepth 100000 in
set_option maxHeartbeats 4000000 in
theorem k_areSame {D : Dn} {P : Pt} (hM : MX g ad o h0 s h) (hO : dnOk D) (hp : plAt s D P) (hs : P.1.1 ≤ 99) {a1 k1 a2 k2 : Nat} (h1 : a1 < 8) (h2 : k1 ≤ P.1.1) (h3 : a2 < 8) (h4 : k2 ≤ P.1.1) (hd : 1 ≤ d) : Kc g mX3_areSame d 0 0 [.ref o, vz (a1 : Int), vz (k1 : Int), vz (a2 : Int), vz (k2 : Int)] h (mR g ad o h0 (some (vz (bI (same D P a1 k1 a2 k2)))) s) := by
  refine Kc.of (ls := [some (.ref o), some (vz (a1 : Int)), some (vz (k1 : Int)), some (vz (a2 : Int)), some (vz (k2 : Int))]) (by decide +kernel) (Nat.le_of_ble_eq_true rfl) rfl ?_
  have q1 := pos_le hO P h1 (show k1 ≤ 100 by omega)
  have q2 := pos_le hO P h3 (show k2 ≤ 100 by omega)
  refine ev_aload_n dX3_areSame_0 rfl ?_
  refine mx_getA hM dX3_areSame_1 gf_X3_83_X3 rfl ?_
  refine ev_bipushZ dX3_areSame_4 rfl ?_
  refine ev_iload_n dX3_areSame_6 rfl ?_
  refine ev_imulZ dX3_areSame_7 ?_
  refine ev_iload_n dX3_areSame_8 rfl ?_
  refine ev_iaddZ dX3_areSame_9 ?_
  refine ev_to (b := ((100 * a1 + k1 : Nat) : Int)) (by omega) ?_
  refine mx_iald hM rfl dX3_areSame_10 (by omega) ?_
  try simp only [uS_1, uA_1, uF_1, uS_2, uA_2a, uF_2a, Nat.reduceEqDiff, reduceIte, Int.reduceToNat, Int.toNat_natCast]
  rw [(hp a1 k1 h1 h2).1]
  refine ev_aload_n dX3_areSame_11 rfl ?_
  refine mx_getA hM dX3_areSame_12 gf_X3_83_X3 rfl ?_
  refine ev_bipushZ dX3_areSame_15 rfl ?_
  refine ev_iload_n dX3_areSame_17 rfl ?_
  refine ev_imulZ dX3_areSame_18 ?_
  refine ev_iload dX3_areSame_19 rfl ?_
  refine ev_iaddZ dX3_areSame_21 ?_
  refine ev_to (b := ((100 * a2 + k2 : Nat) : Int)) (by omega) ?_
  refine mx_iald hM rfl dX3_areSame_22 (by omega) ?_
  try simp only [uS_1, uA_1, uF_1, uS_2, uA_2a, uF_2a, Nat.reduceEqDiff, reduceIte, Int.reduceToNat, Int.toNat_natCast]
  rw [(hp a2 k2 h3 h4).1]
  refine ev_icmp_neZ (tgt := 56) dX3_areSame_23 (by decide) (by omega) (by omega) (fun c23 => ?_) (fun c23 => ?_)
  · refine ev_iconstZ dX3_areSame_56 ?_
    refine ev_zreturn dX3_areSame_57 rfl (by decide) ?_
    exact ⟨by unfold same; first | (rw [bI_t]; omega) | (rw [bI_f]; omega), hM⟩
  · refine ev_aload_n dX3_areSame_26 rfl ?_
    refine mx_getA hM dX3_areSame_27 gf_X3_86_X3 rfl ?_
    refine ev_bipushZ dX3_areSame_30 rfl ?_
    refine ev_iload_n dX3_areSame_32 rfl ?_
    refine ev_imulZ dX3_areSame_33 ?_
    refine ev_iload_n dX3_areSame_34 rfl ?_
    refine ev_iaddZ dX3_areSame_35 ?_
    refine ev_to (b := ((100 * a1 + k1 : Nat) : Int)) (by omega) ?_
    refine mx_iald hM rfl dX3_areSame_36 (by omega) ?_
    try simp only [uS_1, uA_1, uF_1, uS_2, uA_2a, uF_2a, Nat.reduceEqDiff, reduceIte, Int.reduceToNat, Int.toNat_natCast]
    rw [(hp a1 k1 h1 h2).2]
    refine ev_aload_n dX3_areSame_37 rfl ?_
    refine mx_getA hM dX3_areSame_38 gf_X3_86_X3 rfl ?_
    refine ev_bipushZ dX3_areSame_41 rfl ?_
    refine ev_iload_n dX3_areSame_43 rfl ?_
    refine ev_imulZ dX3_areSame_44 ?_
    refine ev_iload dX3_areSame_45 rfl ?_
    refine ev_iaddZ dX3_areSame_47 ?_
    refine ev_to (b := ((100 * a2 + k2 : Nat) : Int)) (by omega) ?_
    refine mx_iald hM rfl dX3_areSame_48 (by omega) ?_
    try simp only [uS_1, uA_1, uF_1, uS_2, uA_2a, uF_2a, Nat.reduceEqDiff, reduceIte, Int.reduceToNat, Int.toNat_natCast]
    rw [(hp a2 k2 h3 h4).2]
    refine ev_icmp_neZ (tgt := 56) dX3_areSame_49 (by decide) (by omega) (by omega) (fun c49 => ?_) (fun c49 => ?_)
    · refine ev_iconstZ dX3_areSame_56 ?_
      refine ev_zreturn dX3_areSame_57 rfl (by decide) ?_
      exact ⟨by unfold same; first | (rw [bI_t]; omega) | (rw [bI_f]; omega), hM⟩
    · refine ev_iconstZ dX3_areSame_52 ?_
      refine ev_goto (tgt := 57) dX3_areSame_53 (by decide) ?_
      refine ev_zreturn dX3_areSame_57 rfl (by decide) ?_
      exact ⟨by unfold same; first | (rw [bI_t]; omega) | (rw [bI_f]; omega), hM⟩
end Q1

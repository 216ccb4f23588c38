/-! the reference: it writes a node (printed by gen) -/
section P12
variable {g : GB} {M : MI} {d c k : Nat} {Q : RS → HM → Prop} {pc : Nat} {ls : List (Option Value)} {st : List Value} {h : HM} {a b : Int} {ad : Nat → Nat} {o : Nat} {h0 : HM} {s : MSt}
def woAt (s : MSt) (i : Nat) (O : Wo) : Prop := s.2 24 i = O.1 ∧ s.2 26 i = O.2.1 ∧ s.2 27 i = O.2.2.1 ∧ s.2 32 i = bI O.2.2.2
def woOk (O : Wo) : Prop := 3 ≤ O.1 ∧ O.1 ≤ 7 ∧ O.2.1 ≤ 1100 ∧ O.2.2.1 + O.2.1 ≤ 1100
def wkAt (s : MSt) : List Wo → Prop
  | [] => True
  | O :: σ => woAt s σ.length O ∧ woOk O ∧ wkAt s σ
theorem wkAt.low {s s' : MSt} {n : Nat} (h : ∀ i, i < n → s'.2 24 i = s.2 24 i ∧ s'.2 26 i = s.2 26 i ∧ s'.2 27 i = s.2 27 i ∧ s'.2 32 i = s.2 32 i) : ∀ {σ : List Wo}, σ.length ≤ n → wkAt s σ → wkAt s' σ := by
  intro σ
  induction σ with
  | nil => intro _ _; exact trivial
  | cons O σ ih =>
    intro hl hw
    rw [List.length_cons] at hl
    obtain ⟨q1, q2, q3, q4⟩ := h σ.length (by omega)
    obtain ⟨⟨w1, w2, w3, w4⟩, w5, w6⟩ := hw
    exact ⟨⟨q1.trans w1, q2.trans w2, q3.trans w3, q4.trans w4⟩, w5, ih (by omega) w6⟩
theorem wkAt.fr {s s' : MSt} {σ : List Wo} {K J : List Nat} (h : wkAt s σ) (hf : fr s s' K J) (hJ : [24, 26, 27, 32].all (fun x => ! J.contains x) = true) : wkAt s' σ := by
  have key : ∀ j, j ∈ [24, 26, 27, 32] → s'.2 j = s.2 j := fun j hj => hf.2 j (by
    have := List.all_eq_true.mp hJ j hj
    simpa using this)
  exact wkAt.low (n := σ.length) (fun i _ => ⟨by rw [key 24 (by simp)], by rw [key 26 (by simp)], by rw [key 27 (by simp)], by rw [key 32 (by simp)]⟩) (Nat.le_refl _) h
theorem paW_ok {s : MSt} {σ : List Wo} (h : wkAt s σ) : paW σ ≤ 7 ∨ paW σ = 9 := by
  cases σ with
  | nil => exact Or.inr rfl
  | cons O σ => exact Or.inl h.2.1.2.1
set_option maxRecDepth 100000 in
set_option maxHeartbeats 4000000 in
theorem k_writesNode {n : Nat} {nd : Nd} {u : List Nat} {σ : List Wo} (hM : MX g ad o h0 s h) (hn : n < 1100) (hA : ndAt (s.2 1) n nd) (hO : ndOk nd) (hu : ouAt s u) (h23 : s.1 23 = σ.length) (hw : wkAt s σ) (hcl : ¬ nd.1 ≤ 2 → σ.length < 80) (h80 : σ.length ≤ 80) (hroom : ∀ O τ, σ = O :: τ → O.2.2.1 + O.2.1 < 1100) (hl : (u ++ sepW σ ++ (if nd.1 ≤ 2 then leafT nd else lp (insB nd.1 (paW σ)) ++ headT nd)).length ≤ 12000) (hd : 4 ≤ d) : Kc g mX3_writesNode d 0 0 [.ref o, vz (n : Int)] h (mP g ad o h0 (fun v s' => v = none ∧ fr s s' [13, 23] [12, 24, 26, 27, 32] ∧ ouAt s' (u ++ sepW σ ++ (if nd.1 ≤ 2 then leafT nd else lp (insB nd.1 (paW σ)) ++ headT nd)) ∧ s'.1 23 = ((if nd.1 ≤ 2 then bumpW σ else (nd.1, nd.2.2.1, 0, insB nd.1 (paW σ)) :: bumpW σ).length : Nat) ∧ wkAt s' (if nd.1 ≤ 2 then bumpW σ else (nd.1, nd.2.2.1, 0, insB nd.1 (paW σ)) :: bumpW σ))) := by
  refine Kc.of (ls := [some (.ref o), some (vz (n : Int)), none, none]) (by decide +kernel) (Nat.le_of_ble_eq_true rfl) rfl ?_
  have hpa := paW_ok hw
  have hO1 := hO.1
  have hO3 := hO.2.2.1
  have T184 : ∀ (s1 : MSt) (h : HM), MX g ad o h0 s1 h → fr s s1 [13, 23] [12, 24, 26, 27, 32] → ouAt s1 (u ++ sepW σ ++ lp (insB nd.1 (paW σ)) ++ headT nd) → s1.1 23 = σ.length → wkAt s1 (bumpW σ) → ¬ nd.1 ≤ 2 → Ev g mX3_writesNode d 0 0 (mP g ad o h0 (fun v s' => v = none ∧ fr s s' [13, 23] [12, 24, 26, 27, 32] ∧ ouAt s' (u ++ sepW σ ++ (if nd.1 ≤ 2 then leafT nd else lp (insB nd.1 (paW σ)) ++ headT nd)) ∧ s'.1 23 = ((if nd.1 ≤ 2 then bumpW σ else (nd.1, nd.2.2.1, 0, insB nd.1 (paW σ)) :: bumpW σ).length : Nat) ∧ wkAt s' (if nd.1 ≤ 2 then bumpW σ else (nd.1, nd.2.2.1, 0, insB nd.1 (paW σ)) :: bumpW σ))) 184 [some (.ref o), some (vz (n : Int)), none, some (vz (bI (insB nd.1 (paW σ))))] [] h := by
    intro s1 h hM hf1 hu1 h23 hw1 hk2
    have hc80 := hcl hk2
    have e1 : s1.2 1 = s.2 1 := hf1.2 1 (by decide)
    refine ev_aload_n dX3_writesNode_184 rfl ?_
    refine mx_getA hM dX3_writesNode_185 gf_X3_42_X3 rfl ?_
    refine ev_aload_n dX3_writesNode_188 rfl ?_
    refine mx_getI hM dX3_writesNode_189 gf_X3_174_X3 rfl ?_
    try simp only [uS_1, uA_1, uF_1, uS_2, uA_2a, uF_2a, Nat.reduceEqDiff, reduceIte, Int.reduceToNat, Int.toNat_natCast]
    rw [h23]
    refine ev_aload_n dX3_writesNode_192 rfl ?_
    refine ev_iload_n dX3_writesNode_193 rfl ?_
    refine mx_call dX3_writesNode_194 cv_X3_162_X3 ce_X3_kind hM rfl rfl (k_kindN (n := n) (x := (nd.1 : Int)) (d := d - 1) (by omega) hM (by omega) (by rw [e1]; exact hA.1)) (by omega) (Nat.le_of_ble_eq_true rfl) (fun h hM => ?_)
    refine mx_iast hM rfl dX3_writesNode_197 (by omega) (fun h hM => ?_)
    refine ev_aload_n dX3_writesNode_198 rfl ?_
    refine mx_getA hM dX3_writesNode_199 gf_X3_48_X3 rfl ?_
    refine ev_aload_n dX3_writesNode_202 rfl ?_
    refine mx_getI hM dX3_writesNode_203 gf_X3_174_X3 rfl ?_
    try simp only [uS_1, uA_1, uF_1, uS_2, uA_2a, uF_2a, Nat.reduceEqDiff, reduceIte, Int.reduceToNat, Int.toNat_natCast]
    rw [h23]
    refine ev_aload_n dX3_writesNode_206 rfl ?_
    refine ev_iload_n dX3_writesNode_207 rfl ?_
    refine ev_iconstZ dX3_writesNode_208 ?_
    refine mx_call dX3_writesNode_209 cv_X3_133_X3 ce_X3_of hM rfl rfl (k_ofN (n := n) (w := 2) (x := (nd.2.2.1 : Int)) (d := d - 1) (by omega) hM (by omega) (by simp only [uA_2a, Nat.reduceEqDiff, reduceIte]; rw [e1]; exact hA.2.2.1)) (by omega) (Nat.le_of_ble_eq_true rfl) (fun h hM => ?_)
    refine mx_iast hM rfl dX3_writesNode_212 (by omega) (fun h hM => ?_)
    refine ev_aload_n dX3_writesNode_213 rfl ?_
    refine mx_getA hM dX3_writesNode_214 gf_X3_51_X3 rfl ?_
    refine ev_aload_n dX3_writesNode_217 rfl ?_
    refine mx_getI hM dX3_writesNode_218 gf_X3_174_X3 rfl ?_
    try simp only [uS_1, uA_1, uF_1, uS_2, uA_2a, uF_2a, Nat.reduceEqDiff, reduceIte, Int.reduceToNat, Int.toNat_natCast]
    rw [h23]
    refine ev_iconstZ dX3_writesNode_221 ?_
    refine mx_iast hM rfl dX3_writesNode_222 (by omega) (fun h hM => ?_)
    refine ev_aload_n dX3_writesNode_223 rfl ?_
    refine mx_getA hM dX3_writesNode_224 gf_X3_66_X3 rfl ?_
    refine ev_aload_n dX3_writesNode_227 rfl ?_
    refine mx_getI hM dX3_writesNode_228 gf_X3_174_X3 rfl ?_
    try simp only [uS_1, uA_1, uF_1, uS_2, uA_2a, uF_2a, Nat.reduceEqDiff, reduceIte, Int.reduceToNat, Int.toNat_natCast]
    rw [h23]
    refine ev_iload_n dX3_writesNode_231 rfl ?_
    refine mx_zast hM rfl dX3_writesNode_232 (by omega) (bI_o _) (fun h hM => ?_)
    refine ev_aload_n dX3_writesNode_233 rfl ?_
    refine ev_dup dX3_writesNode_234 rfl ?_
    refine mx_getI hM dX3_writesNode_235 gf_X3_174_X3 rfl ?_
    try simp only [uS_1, uA_1, uF_1, uS_2, uA_2a, uF_2a, Nat.reduceEqDiff, reduceIte, Int.reduceToNat, Int.toNat_natCast]
    rw [h23]
    refine ev_iconstZ dX3_writesNode_238 ?_
    refine ev_iaddZ dX3_writesNode_239 ?_
    refine mx_putI hM dX3_writesNode_240 gf_X3_174_X3 rfl (fun h hM => ?_)
    refine ev_return dX3_writesNode_243 rfl ?_
    simp only [Int.toNat_natCast] at hM
    refine ⟨none, _, rfl, ⟨rfl, fr.S (fr.A (fr.A (fr.A (fr.A hf1 rfl) rfl) rfl) rfl) rfl, ?_, ?_, ?_⟩, hM⟩
    · rw [if_neg hk2, ← List.append_assoc]; exact hu1
    · rw [if_neg hk2]; simp only [uS_1, uA_1, uF_1, uS_2, uA_2a, uF_2a, Nat.reduceEqDiff, reduceIte, Int.reduceToNat, Int.toNat_natCast]; simp only [List.length_cons, bumpW_len]; omega
    · rw [if_neg hk2]; refine ⟨?_, ?_, ?_⟩
      · rw [bumpW_len]; exact ⟨by simp only [uS_1, uA_1, uF_1, uS_2, uA_2a, uF_2a, Nat.reduceEqDiff, reduceIte, Int.reduceToNat, Int.toNat_natCast], by simp only [uS_1, uA_1, uF_1, uS_2, uA_2a, uF_2a, Nat.reduceEqDiff, reduceIte, Int.reduceToNat, Int.toNat_natCast], by simp only [uS_1, uA_1, uF_1, uS_2, uA_2a, uF_2a, Nat.reduceEqDiff, reduceIte, Int.reduceToNat, Int.toNat_natCast]; rfl, by simp only [uS_1, uA_1, uF_1, uS_2, uA_2a, uF_2a, Nat.reduceEqDiff, reduceIte, Int.reduceToNat, Int.toNat_natCast]⟩
      · exact ⟨by show 3 ≤ nd.1; omega, by show nd.1 ≤ 7; omega, by show nd.2.2.1 ≤ 1100; omega, by show 0 + nd.2.2.1 ≤ 1100; omega⟩
      · refine wkAt.low (n := σ.length) (fun i hi => ?_) (by rw [bumpW_len]; exact Nat.le_refl _) hw1
        simp only [uS_1, uA_1, uF_1, uS_2, uA_2a, uF_2a, Nat.reduceEqDiff, reduceIte, Int.reduceToNat, Int.toNat_natCast]
        rw [if_neg (by omega), if_neg (by omega), if_neg (by omega), if_neg (by omega)]
        exact ⟨rfl, rfl, rfl, rfl⟩
  have T103 : ∀ (s1 : MSt) (h : HM), MX g ad o h0 s1 h → fr s s1 [13, 23] [12, 24, 26, 27, 32] → ouAt s1 (u ++ sepW σ ++ lp (insB nd.1 (paW σ))) → s1.1 23 = σ.length → wkAt s1 (bumpW σ) → Ev g mX3_writesNode d 0 0 (mP g ad o h0 (fun v s' => v = none ∧ fr s s' [13, 23] [12, 24, 26, 27, 32] ∧ ouAt s' (u ++ sepW σ ++ (if nd.1 ≤ 2 then leafT nd else lp (insB nd.1 (paW σ)) ++ headT nd)) ∧ s'.1 23 = ((if nd.1 ≤ 2 then bumpW σ else (nd.1, nd.2.2.1, 0, insB nd.1 (paW σ)) :: bumpW σ).length : Nat) ∧ wkAt s' (if nd.1 ≤ 2 then bumpW σ else (nd.1, nd.2.2.1, 0, insB nd.1 (paW σ)) :: bumpW σ))) 103 [some (.ref o), some (vz (n : Int)), some (vz (paI (paW σ))), some (vz (bI (insB nd.1 (paW σ))))] [] h := by
    intro s1 h hM hf1 hu1 h23 hw1
    have e1 : s1.2 1 = s.2 1 := hf1.2 1 (by decide)
    by_cases hk2 : nd.1 ≤ 2
    · refine ev_aload_n dX3_writesNode_103 rfl ?_
      refine ev_iload_n dX3_writesNode_104 rfl ?_
      refine mx_call dX3_writesNode_105 cv_X3_162_X3 ce_X3_kind hM rfl rfl (k_kindN (n := n) (x := (nd.1 : Int)) (d := d - 1) (by omega) hM (by omega) (by rw [e1]; exact hA.1)) (by omega) (Nat.le_of_ble_eq_true rfl) (fun h hM => ?_)
      refine ev_iconstZ dX3_writesNode_108 ?_
      refine ev_icmp_gtZ (tgt := 118) dX3_writesNode_109 (by decide) (by omega) (by omega) (fun c => absurd c (by omega)) (fun _ => ?_)
      refine ev_aload_n dX3_writesNode_112 rfl ?_
      refine ev_iload_n dX3_writesNode_113 rfl ?_
      refine mx_callP dX3_writesNode_114 cv_X3_302_X3 ce_X3_writesLeaf hM rfl rfl (k_writesLeaf (n := n) (nd := nd) (u := u ++ sepW σ) (d := d - 1) hM (by omega) (by rw [e1]; exact hA) hO hk2 (by have : insB nd.1 (paW σ) = false := by { unfold insB; split; rfl; simp; omega }; rw [this] at hu1; simpa [lp] using hu1) (by have := hl; rw [if_pos hk2] at this; exact this) (by omega)) (by omega) (Nat.le_of_ble_eq_true rfl) (fun v s' h hP hM => ?_)
      obtain ⟨rfl, f2, hu2⟩ := hP
      refine ev_return dX3_writesNode_117 rfl ?_
      refine ⟨none, _, rfl, ⟨rfl, hf1.trans (f2.more rfl rfl), by rw [if_pos hk2]; exact hu2, ?_, ?_⟩, hM⟩
      · rw [if_pos hk2, bumpW_len]; exact (f2.1 23 (by decide)).trans h23
      · rw [if_pos hk2]; exact hw1.fr f2 rfl
    · have hkc : nd.1 = 3 ∨ nd.1 = 4 ∨ nd.1 = 5 ∨ nd.1 = 6 ∨ nd.1 = 7 := by have := hO.1; omega
      have hlc : (u ++ sepW σ ++ (lp (insB nd.1 (paW σ)) ++ headT nd)).length ≤ 12000 := by have := hl; rw [if_neg hk2] at this; exact this
      rcases hkc with hkd | hkd | hkd | hkd | hkd
      · have eh : headT nd = [48 + nd.2.1] := by unfold headT; simp [hkd]
        refine ev_aload_n dX3_writesNode_103 rfl ?_
        refine ev_iload_n dX3_writesNode_104 rfl ?_
        refine mx_call dX3_writesNode_105 cv_X3_162_X3 ce_X3_kind hM rfl rfl (k_kindN (n := n) (x := (nd.1 : Int)) (d := d - 1) (by omega) hM (by omega) (by rw [e1]; exact hA.1)) (by omega) (Nat.le_of_ble_eq_true rfl) (fun h hM => ?_)
        refine ev_iconstZ dX3_writesNode_108 ?_
        refine ev_icmp_gtZ (tgt := 118) dX3_writesNode_109 (by decide) (by omega) (by omega) (fun _ => ?_) (fun c => absurd (by omega) c)
        refine ev_aload_n dX3_writesNode_118 rfl ?_
        refine ev_iload_n dX3_writesNode_119 rfl ?_
        refine mx_call dX3_writesNode_120 cv_X3_162_X3 ce_X3_kind hM rfl rfl (k_kindN (n := n) (x := (nd.1 : Int)) (d := d - 1) (by omega) hM (by omega) (by rw [e1]; exact hA.1)) (by omega) (Nat.le_of_ble_eq_true rfl) (fun h hM => ?_)
        refine ev_iconstZ dX3_writesNode_123 ?_
        refine ev_icmp_neZ (tgt := 140) dX3_writesNode_124 (by decide) (by omega) (by omega) (fun c => absurd (by omega) c) (fun _ => ?_)
        refine ev_aload_n dX3_writesNode_127 rfl ?_
        refine ev_bipushZ dX3_writesNode_128 rfl ?_
        refine ev_aload_n dX3_writesNode_130 rfl ?_
        refine ev_iload_n dX3_writesNode_131 rfl ?_
        refine ev_iconstZ dX3_writesNode_132 ?_
        refine mx_call dX3_writesNode_133 cv_X3_133_X3 ce_X3_of hM rfl rfl (k_ofN (n := n) (w := 1) (x := (nd.2.1 : Int)) (d := d - 1) (by omega) hM (by omega) (by rw [e1]; exact hA.2.1)) (by omega) (Nat.le_of_ble_eq_true rfl) (fun h hM => ?_)
        refine ev_iaddZ dX3_writesNode_136 ?_
        refine ev_to (b := ((48 + nd.2.1 : Nat) : Int)) (by omega) ?_
        refine mx_callP dX3_writesNode_137 cv_X3_291_X3 ce_X3_writes hM rfl rfl (k_writes (u := u ++ sepW σ ++ lp (insB nd.1 (paW σ))) (c1 := 48 + nd.2.1) hM hu1 (by rw [eh] at hlc; simp at hlc ⊢; omega) (by have := hO.2.1; omega) (d := d - 1) (by omega)) (by omega) (Nat.le_of_ble_eq_true rfl) (fun v s2 h hP hM => ?_)
        obtain ⟨rfl, f2, hu2⟩ := hP
        have e2 : s2.2 1 = s.2 1 := (f2.2 1 (by decide)).trans e1
        refine ev_aload_n dX3_writesNode_140 rfl ?_
        refine ev_iload_n dX3_writesNode_141 rfl ?_
        refine mx_call dX3_writesNode_142 cv_X3_162_X3 ce_X3_kind hM rfl rfl (k_kindN (n := n) (x := (nd.1 : Int)) (d := d - 1) (by omega) hM (by omega) (by rw [e2]; exact hA.1)) (by omega) (Nat.le_of_ble_eq_true rfl) (fun h hM => ?_)
        refine ev_iconstZ dX3_writesNode_145 ?_
        refine ev_icmp_eqZ (tgt := 158) dX3_writesNode_146 (by decide) (by omega) (by omega) (fun c => absurd c (by omega)) (fun _ => ?_)
        refine ev_aload_n dX3_writesNode_149 rfl ?_
        refine ev_iload_n dX3_writesNode_150 rfl ?_
        refine mx_call dX3_writesNode_151 cv_X3_162_X3 ce_X3_kind hM rfl rfl (k_kindN (n := n) (x := (nd.1 : Int)) (d := d - 1) (by omega) hM (by omega) (by rw [e2]; exact hA.1)) (by omega) (Nat.le_of_ble_eq_true rfl) (fun h hM => ?_)
        refine ev_iconstZ dX3_writesNode_154 ?_
        refine ev_icmp_neZ (tgt := 184) dX3_writesNode_155 (by decide) (by omega) (by omega) (fun _ => ?_) (fun c => absurd c (by omega))
        exact Ev.forget (T184 s2 h hM (hf1.trans (f2.more rfl rfl)) (by rw [eh]; exact hu2) ((f2.1 23 (by decide)).trans h23) (hw1.fr f2 rfl) hk2) (by repeat' first | exact rfl | exact trivial | exact vz_eq (by omega) | refine And.intro ?_ ?_)
      · have eh : headT nd = [109, 40] := by unfold headT; simp [hkd]
        refine ev_aload_n dX3_writesNode_103 rfl ?_
        refine ev_iload_n dX3_writesNode_104 rfl ?_
        refine mx_call dX3_writesNode_105 cv_X3_162_X3 ce_X3_kind hM rfl rfl (k_kindN (n := n) (x := (nd.1 : Int)) (d := d - 1) (by omega) hM (by omega) (by rw [e1]; exact hA.1)) (by omega) (Nat.le_of_ble_eq_true rfl) (fun h hM => ?_)
        refine ev_iconstZ dX3_writesNode_108 ?_
        refine ev_icmp_gtZ (tgt := 118) dX3_writesNode_109 (by decide) (by omega) (by omega) (fun _ => ?_) (fun c => absurd (by omega) c)
        refine ev_aload_n dX3_writesNode_118 rfl ?_
        refine ev_iload_n dX3_writesNode_119 rfl ?_
        refine mx_call dX3_writesNode_120 cv_X3_162_X3 ce_X3_kind hM rfl rfl (k_kindN (n := n) (x := (nd.1 : Int)) (d := d - 1) (by omega) hM (by omega) (by rw [e1]; exact hA.1)) (by omega) (Nat.le_of_ble_eq_true rfl) (fun h hM => ?_)
        refine ev_iconstZ dX3_writesNode_123 ?_
        refine ev_icmp_neZ (tgt := 140) dX3_writesNode_124 (by decide) (by omega) (by omega) (fun _ => ?_) (fun c => absurd c (by omega))
        refine ev_aload_n dX3_writesNode_140 rfl ?_
        refine ev_iload_n dX3_writesNode_141 rfl ?_
        refine mx_call dX3_writesNode_142 cv_X3_162_X3 ce_X3_kind hM rfl rfl (k_kindN (n := n) (x := (nd.1 : Int)) (d := d - 1) (by omega) hM (by omega) (by rw [e1]; exact hA.1)) (by omega) (Nat.le_of_ble_eq_true rfl) (fun h hM => ?_)
        refine ev_iconstZ dX3_writesNode_145 ?_
        refine ev_icmp_eqZ (tgt := 158) dX3_writesNode_146 (by decide) (by omega) (by omega) (fun _ => ?_) (fun c => absurd (by omega) c)
        refine ev_aload_n dX3_writesNode_158 rfl ?_
        refine ev_aload_n dX3_writesNode_159 rfl ?_
        refine ev_iload_n dX3_writesNode_160 rfl ?_
        refine mx_call dX3_writesNode_161 cv_X3_162_X3 ce_X3_kind hM rfl rfl (k_kindN (n := n) (x := (nd.1 : Int)) (d := d - 1) (by omega) hM (by omega) (by rw [e1]; exact hA.1)) (by omega) (Nat.le_of_ble_eq_true rfl) (fun h hM => ?_)
        refine ev_iconstZ dX3_writesNode_164 ?_
        refine ev_icmp_neZ (tgt := 173) dX3_writesNode_165 (by decide) (by omega) (by omega) (fun c => absurd (by omega) c) (fun _ => ?_)
        refine ev_bipushZ dX3_writesNode_168 rfl ?_
        refine ev_goto (tgt := 175) dX3_writesNode_170 (by decide) ?_
        refine mx_callP dX3_writesNode_175 cv_X3_291_X3 ce_X3_writes hM rfl rfl (k_writes (u := u ++ sepW σ ++ lp (insB nd.1 (paW σ))) (c1 := 109) hM hu1 (by rw [eh] at hlc; simp at hlc ⊢; omega) (by omega) (d := d - 1) (by omega)) (by omega) (Nat.le_of_ble_eq_true rfl) (fun v s2 h hP hM => ?_)
        obtain ⟨rfl, f2, hu2⟩ := hP
        refine ev_aload_n dX3_writesNode_178 rfl ?_
        refine ev_bipushZ dX3_writesNode_179 rfl ?_
        refine mx_callP dX3_writesNode_181 cv_X3_291_X3 ce_X3_writes hM rfl rfl (k_writes (u := u ++ sepW σ ++ lp (insB nd.1 (paW σ)) ++ [109]) (c1 := 40) hM hu2 (by rw [eh] at hlc; simp at hlc ⊢; omega) (by omega) (d := d - 1) (by omega)) (by omega) (Nat.le_of_ble_eq_true rfl) (fun v s3 h hP hM => ?_)
        obtain ⟨rfl, f3, hu3⟩ := hP
        exact Ev.forget (T184 s3 h hM (hf1.trans ((f2.trans f3).more rfl rfl)) (by rw [eh]; rw [List.append_assoc] at hu3; exact hu3) (((f2.trans f3).1 23 (by decide)).trans h23) (hw1.fr (f2.trans f3) rfl) hk2) (by repeat' first | exact rfl | exact trivial | exact vz_eq (by omega) | refine And.intro ?_ ?_)
      · have eh : headT nd = [114, 40] := by unfold headT; simp [hkd]
        refine ev_aload_n dX3_writesNode_103 rfl ?_
        refine ev_iload_n dX3_writesNode_104 rfl ?_
        refine mx_call dX3_writesNode_105 cv_X3_162_X3 ce_X3_kind hM rfl rfl (k_kindN (n := n) (x := (nd.1 : Int)) (d := d - 1) (by omega) hM (by omega) (by rw [e1]; exact hA.1)) (by omega) (Nat.le_of_ble_eq_true rfl) (fun h hM => ?_)
        refine ev_iconstZ dX3_writesNode_108 ?_
        refine ev_icmp_gtZ (tgt := 118) dX3_writesNode_109 (by decide) (by omega) (by omega) (fun _ => ?_) (fun c => absurd (by omega) c)
        refine ev_aload_n dX3_writesNode_118 rfl ?_
        refine ev_iload_n dX3_writesNode_119 rfl ?_
        refine mx_call dX3_writesNode_120 cv_X3_162_X3 ce_X3_kind hM rfl rfl (k_kindN (n := n) (x := (nd.1 : Int)) (d := d - 1) (by omega) hM (by omega) (by rw [e1]; exact hA.1)) (by omega) (Nat.le_of_ble_eq_true rfl) (fun h hM => ?_)
        refine ev_iconstZ dX3_writesNode_123 ?_
        refine ev_icmp_neZ (tgt := 140) dX3_writesNode_124 (by decide) (by omega) (by omega) (fun _ => ?_) (fun c => absurd c (by omega))
        refine ev_aload_n dX3_writesNode_140 rfl ?_
        refine ev_iload_n dX3_writesNode_141 rfl ?_
        refine mx_call dX3_writesNode_142 cv_X3_162_X3 ce_X3_kind hM rfl rfl (k_kindN (n := n) (x := (nd.1 : Int)) (d := d - 1) (by omega) hM (by omega) (by rw [e1]; exact hA.1)) (by omega) (Nat.le_of_ble_eq_true rfl) (fun h hM => ?_)
        refine ev_iconstZ dX3_writesNode_145 ?_
        refine ev_icmp_eqZ (tgt := 158) dX3_writesNode_146 (by decide) (by omega) (by omega) (fun c => absurd c (by omega)) (fun _ => ?_)
        refine ev_aload_n dX3_writesNode_149 rfl ?_
        refine ev_iload_n dX3_writesNode_150 rfl ?_
        refine mx_call dX3_writesNode_151 cv_X3_162_X3 ce_X3_kind hM rfl rfl (k_kindN (n := n) (x := (nd.1 : Int)) (d := d - 1) (by omega) hM (by omega) (by rw [e1]; exact hA.1)) (by omega) (Nat.le_of_ble_eq_true rfl) (fun h hM => ?_)
        refine ev_iconstZ dX3_writesNode_154 ?_
        refine ev_icmp_neZ (tgt := 184) dX3_writesNode_155 (by decide) (by omega) (by omega) (fun c => absurd (by omega) c) (fun _ => ?_)
        refine ev_aload_n dX3_writesNode_158 rfl ?_
        refine ev_aload_n dX3_writesNode_159 rfl ?_
        refine ev_iload_n dX3_writesNode_160 rfl ?_
        refine mx_call dX3_writesNode_161 cv_X3_162_X3 ce_X3_kind hM rfl rfl (k_kindN (n := n) (x := (nd.1 : Int)) (d := d - 1) (by omega) hM (by omega) (by rw [e1]; exact hA.1)) (by omega) (Nat.le_of_ble_eq_true rfl) (fun h hM => ?_)
        refine ev_iconstZ dX3_writesNode_164 ?_
        refine ev_icmp_neZ (tgt := 173) dX3_writesNode_165 (by decide) (by omega) (by omega) (fun _ => ?_) (fun c => absurd c (by omega))
        refine ev_bipushZ dX3_writesNode_173 rfl ?_
        refine mx_callP dX3_writesNode_175 cv_X3_291_X3 ce_X3_writes hM rfl rfl (k_writes (u := u ++ sepW σ ++ lp (insB nd.1 (paW σ))) (c1 := 114) hM hu1 (by rw [eh] at hlc; simp at hlc ⊢; omega) (by omega) (d := d - 1) (by omega)) (by omega) (Nat.le_of_ble_eq_true rfl) (fun v s2 h hP hM => ?_)
        obtain ⟨rfl, f2, hu2⟩ := hP
        refine ev_aload_n dX3_writesNode_178 rfl ?_
        refine ev_bipushZ dX3_writesNode_179 rfl ?_
        refine mx_callP dX3_writesNode_181 cv_X3_291_X3 ce_X3_writes hM rfl rfl (k_writes (u := u ++ sepW σ ++ lp (insB nd.1 (paW σ)) ++ [114]) (c1 := 40) hM hu2 (by rw [eh] at hlc; simp at hlc ⊢; omega) (by omega) (d := d - 1) (by omega)) (by omega) (Nat.le_of_ble_eq_true rfl) (fun v s3 h hP hM => ?_)
        obtain ⟨rfl, f3, hu3⟩ := hP
        exact Ev.forget (T184 s3 h hM (hf1.trans ((f2.trans f3).more rfl rfl)) (by rw [eh]; rw [List.append_assoc] at hu3; exact hu3) (((f2.trans f3).1 23 (by decide)).trans h23) (hw1.fr (f2.trans f3) rfl) hk2) (by repeat' first | exact rfl | exact trivial | exact vz_eq (by omega) | refine And.intro ?_ ?_)
      · have eh : headT nd = [] := by unfold headT; simp [hkd]
        refine ev_aload_n dX3_writesNode_103 rfl ?_
        refine ev_iload_n dX3_writesNode_104 rfl ?_
        refine mx_call dX3_writesNode_105 cv_X3_162_X3 ce_X3_kind hM rfl rfl (k_kindN (n := n) (x := (nd.1 : Int)) (d := d - 1) (by omega) hM (by omega) (by rw [e1]; exact hA.1)) (by omega) (Nat.le_of_ble_eq_true rfl) (fun h hM => ?_)
        refine ev_iconstZ dX3_writesNode_108 ?_
        refine ev_icmp_gtZ (tgt := 118) dX3_writesNode_109 (by decide) (by omega) (by omega) (fun _ => ?_) (fun c => absurd (by omega) c)
        refine ev_aload_n dX3_writesNode_118 rfl ?_
        refine ev_iload_n dX3_writesNode_119 rfl ?_
        refine mx_call dX3_writesNode_120 cv_X3_162_X3 ce_X3_kind hM rfl rfl (k_kindN (n := n) (x := (nd.1 : Int)) (d := d - 1) (by omega) hM (by omega) (by rw [e1]; exact hA.1)) (by omega) (Nat.le_of_ble_eq_true rfl) (fun h hM => ?_)
        refine ev_iconstZ dX3_writesNode_123 ?_
        refine ev_icmp_neZ (tgt := 140) dX3_writesNode_124 (by decide) (by omega) (by omega) (fun _ => ?_) (fun c => absurd c (by omega))
        refine ev_aload_n dX3_writesNode_140 rfl ?_
        refine ev_iload_n dX3_writesNode_141 rfl ?_
        refine mx_call dX3_writesNode_142 cv_X3_162_X3 ce_X3_kind hM rfl rfl (k_kindN (n := n) (x := (nd.1 : Int)) (d := d - 1) (by omega) hM (by omega) (by rw [e1]; exact hA.1)) (by omega) (Nat.le_of_ble_eq_true rfl) (fun h hM => ?_)
        refine ev_iconstZ dX3_writesNode_145 ?_
        refine ev_icmp_eqZ (tgt := 158) dX3_writesNode_146 (by decide) (by omega) (by omega) (fun c => absurd c (by omega)) (fun _ => ?_)
        refine ev_aload_n dX3_writesNode_149 rfl ?_
        refine ev_iload_n dX3_writesNode_150 rfl ?_
        refine mx_call dX3_writesNode_151 cv_X3_162_X3 ce_X3_kind hM rfl rfl (k_kindN (n := n) (x := (nd.1 : Int)) (d := d - 1) (by omega) hM (by omega) (by rw [e1]; exact hA.1)) (by omega) (Nat.le_of_ble_eq_true rfl) (fun h hM => ?_)
        refine ev_iconstZ dX3_writesNode_154 ?_
        refine ev_icmp_neZ (tgt := 184) dX3_writesNode_155 (by decide) (by omega) (by omega) (fun _ => ?_) (fun c => absurd c (by omega))
        exact Ev.forget (T184 s1 h hM hf1 (by rw [eh, List.append_nil]; exact hu1) h23 hw1 hk2) (by repeat' first | exact rfl | exact trivial | exact vz_eq (by omega) | refine And.intro ?_ ?_)
      · have eh : headT nd = [] := by unfold headT; simp [hkd]
        refine ev_aload_n dX3_writesNode_103 rfl ?_
        refine ev_iload_n dX3_writesNode_104 rfl ?_
        refine mx_call dX3_writesNode_105 cv_X3_162_X3 ce_X3_kind hM rfl rfl (k_kindN (n := n) (x := (nd.1 : Int)) (d := d - 1) (by omega) hM (by omega) (by rw [e1]; exact hA.1)) (by omega) (Nat.le_of_ble_eq_true rfl) (fun h hM => ?_)
        refine ev_iconstZ dX3_writesNode_108 ?_
        refine ev_icmp_gtZ (tgt := 118) dX3_writesNode_109 (by decide) (by omega) (by omega) (fun _ => ?_) (fun c => absurd (by omega) c)
        refine ev_aload_n dX3_writesNode_118 rfl ?_
        refine ev_iload_n dX3_writesNode_119 rfl ?_
        refine mx_call dX3_writesNode_120 cv_X3_162_X3 ce_X3_kind hM rfl rfl (k_kindN (n := n) (x := (nd.1 : Int)) (d := d - 1) (by omega) hM (by omega) (by rw [e1]; exact hA.1)) (by omega) (Nat.le_of_ble_eq_true rfl) (fun h hM => ?_)
        refine ev_iconstZ dX3_writesNode_123 ?_
        refine ev_icmp_neZ (tgt := 140) dX3_writesNode_124 (by decide) (by omega) (by omega) (fun _ => ?_) (fun c => absurd c (by omega))
        refine ev_aload_n dX3_writesNode_140 rfl ?_
        refine ev_iload_n dX3_writesNode_141 rfl ?_
        refine mx_call dX3_writesNode_142 cv_X3_162_X3 ce_X3_kind hM rfl rfl (k_kindN (n := n) (x := (nd.1 : Int)) (d := d - 1) (by omega) hM (by omega) (by rw [e1]; exact hA.1)) (by omega) (Nat.le_of_ble_eq_true rfl) (fun h hM => ?_)
        refine ev_iconstZ dX3_writesNode_145 ?_
        refine ev_icmp_eqZ (tgt := 158) dX3_writesNode_146 (by decide) (by omega) (by omega) (fun c => absurd c (by omega)) (fun _ => ?_)
        refine ev_aload_n dX3_writesNode_149 rfl ?_
        refine ev_iload_n dX3_writesNode_150 rfl ?_
        refine mx_call dX3_writesNode_151 cv_X3_162_X3 ce_X3_kind hM rfl rfl (k_kindN (n := n) (x := (nd.1 : Int)) (d := d - 1) (by omega) hM (by omega) (by rw [e1]; exact hA.1)) (by omega) (Nat.le_of_ble_eq_true rfl) (fun h hM => ?_)
        refine ev_iconstZ dX3_writesNode_154 ?_
        refine ev_icmp_neZ (tgt := 184) dX3_writesNode_155 (by decide) (by omega) (by omega) (fun _ => ?_) (fun c => absurd c (by omega))
        exact Ev.forget (T184 s1 h hM hf1 (by rw [eh, List.append_nil]; exact hu1) h23 hw1 hk2) (by repeat' first | exact rfl | exact trivial | exact vz_eq (by omega) | refine And.intro ?_ ?_)
  have T83 : ∀ (s1 : MSt) (h : HM), MX g ad o h0 s1 h → fr s s1 [13, 23] [12, 24, 26, 27, 32] → ouAt s1 (u ++ sepW σ) → s1.1 23 = σ.length → wkAt s1 (bumpW σ) → Ev g mX3_writesNode d 0 0 (mP g ad o h0 (fun v s' => v = none ∧ fr s s' [13, 23] [12, 24, 26, 27, 32] ∧ ouAt s' (u ++ sepW σ ++ (if nd.1 ≤ 2 then leafT nd else lp (insB nd.1 (paW σ)) ++ headT nd)) ∧ s'.1 23 = ((if nd.1 ≤ 2 then bumpW σ else (nd.1, nd.2.2.1, 0, insB nd.1 (paW σ)) :: bumpW σ).length : Nat) ∧ wkAt s' (if nd.1 ≤ 2 then bumpW σ else (nd.1, nd.2.2.1, 0, insB nd.1 (paW σ)) :: bumpW σ))) 83 [some (.ref o), some (vz (n : Int)), some (vz (paI (paW σ))), none] [] h := by
    intro s1 h hM hf1 hu1 h23 hw1
    have e1 : s1.2 1 = s.2 1 := hf1.2 1 (by decide)
    refine ev_aload_n dX3_writesNode_83 rfl ?_
    refine ev_iload_n dX3_writesNode_84 rfl ?_
    refine mx_call dX3_writesNode_85 cv_X3_162_X3 ce_X3_kind hM rfl rfl (k_kindN (n := n) (x := (nd.1 : Int)) (d := d - 1) (by omega) hM (by omega) (by rw [e1]; exact hA.1)) (by omega) (Nat.le_of_ble_eq_true rfl) (fun h hM => ?_)
    refine ev_iload_n dX3_writesNode_88 rfl ?_
    refine ev_callSE dX3_writesNode_89 cs_X3_298 ce_X3_isInside rfl rfl (k_isInside (k1 := nd.1) (p1 := paW σ) (d := d - 1) hO.1 hpa (by omega)) (by omega) (Nat.le_of_ble_eq_true rfl) ?_
    refine ev_istore_n dX3_writesNode_92 (by decide) rfl ?_
    dsimp only [List.set]
    refine ev_iload_n dX3_writesNode_93 rfl ?_
    refine ev_if_eqB (tgt := 103) dX3_writesNode_94 (by decide) (fun c94 => ?_) (fun c94 => ?_)
    · exact Ev.forget (T103 s1 h hM hf1 (by rw [c94]; simpa [lp] using hu1) h23 hw1) (by repeat' first | exact rfl | exact trivial | exact vz_eq (by omega) | refine And.intro ?_ ?_)
    · have hk2 : ¬ nd.1 ≤ 2 := fun q => by { have : insB nd.1 (paW σ) = false := by { unfold insB; split; rfl; simp; omega }; rw [this] at c94; cases c94 }
      refine ev_aload_n dX3_writesNode_97 rfl ?_
      refine ev_bipushZ dX3_writesNode_98 rfl ?_
      refine mx_callP dX3_writesNode_100 cv_X3_291_X3 ce_X3_writes hM rfl rfl (k_writes (u := u ++ sepW σ) (c1 := 40) hM hu1 (by have := hl; rw [if_neg hk2, c94] at this; simp [lp] at this; simp; omega) (by omega) (d := d - 1) (by omega)) (by omega) (Nat.le_of_ble_eq_true rfl) (fun v s2 h hP hM => ?_)
      obtain ⟨rfl, f2, hu2⟩ := hP
      exact Ev.forget (T103 s2 h hM (hf1.trans (f2.more rfl rfl)) (by rw [c94]; exact hu2) ((f2.1 23 (by decide)).trans h23) (hw1.fr f2 rfl)) (by repeat' first | exact rfl | exact trivial | exact vz_eq (by omega) | refine And.intro ?_ ?_)
  cases σ with
  | nil =>
    refine ev_aload_n dX3_writesNode_0 rfl ?_
    refine mx_getI hM dX3_writesNode_1 gf_X3_174_X3 rfl ?_
    try simp only [uS_1, uA_1, uF_1, uS_2, uA_2a, uF_2a, Nat.reduceEqDiff, reduceIte, Int.reduceToNat, Int.toNat_natCast]
    rw [h23]
    refine ev_if_leZ (tgt := 21) dX3_writesNode_4 (by decide) (by simp only [List.length_cons, List.length_nil] at *; omega) (fun _ => ?_) (fun c => absurd (by decide) c)
    refine ev_iconstZ dX3_writesNode_21 ?_
    refine ev_to (b := paI (paW [])) rfl ?_
    refine ev_istore_n dX3_writesNode_22 (by decide) rfl ?_
    dsimp only [List.set]
    refine ev_aload_n dX3_writesNode_23 rfl ?_
    refine mx_getI hM dX3_writesNode_24 gf_X3_174_X3 rfl ?_
    try simp only [uS_1, uA_1, uF_1, uS_2, uA_2a, uF_2a, Nat.reduceEqDiff, reduceIte, Int.reduceToNat, Int.toNat_natCast]
    rw [h23]
    refine ev_if_leZ (tgt := 61) dX3_writesNode_27 (by decide) (by simp only [List.length_cons, List.length_nil] at *; omega) (fun _ => ?_) (fun c => absurd (by decide) c)
    refine ev_aload_n dX3_writesNode_61 rfl ?_
    refine mx_getI hM dX3_writesNode_62 gf_X3_174_X3 rfl ?_
    try simp only [uS_1, uA_1, uF_1, uS_2, uA_2a, uF_2a, Nat.reduceEqDiff, reduceIte, Int.reduceToNat, Int.toNat_natCast]
    rw [h23]
    refine ev_if_leZ (tgt := 83) dX3_writesNode_65 (by decide) (by simp only [List.length_cons, List.length_nil] at *; omega) (fun _ => ?_) (fun c => absurd (by decide) c)
    exact Ev.forget (T83 s h hM (fr.refl _ _ _) (by rw [show sepW [] = [] from rfl, List.append_nil]; exact hu) h23 trivial) (by repeat' first | exact rfl | exact trivial | exact vz_eq (by omega) | refine And.intro ?_ ?_)
  | cons O τ =>
    have h80b : τ.length + 1 ≤ 80 := h80
    have T61 : ∀ (s1 : MSt) (h : HM), MX g ad o h0 s1 h → fr s s1 [13, 23] [12, 24, 26, 27, 32] → ouAt s1 (u ++ sepW (O :: τ)) → s1.1 23 = (O :: τ).length → wkAt s1 (O :: τ) → Ev g mX3_writesNode d 0 0 (mP g ad o h0 (fun v s' => v = none ∧ fr s s' [13, 23] [12, 24, 26, 27, 32] ∧ ouAt s' (u ++ sepW (O :: τ) ++ (if nd.1 ≤ 2 then leafT nd else lp (insB nd.1 (paW (O :: τ))) ++ headT nd)) ∧ s'.1 23 = ((if nd.1 ≤ 2 then bumpW (O :: τ) else (nd.1, nd.2.2.1, 0, insB nd.1 (paW (O :: τ))) :: bumpW (O :: τ)).length : Nat) ∧ wkAt s' (if nd.1 ≤ 2 then bumpW (O :: τ) else (nd.1, nd.2.2.1, 0, insB nd.1 (paW (O :: τ))) :: bumpW (O :: τ)))) 61 [some (.ref o), some (vz (n : Int)), some (vz (paI (paW (O :: τ)))), none] [] h := by
      intro s1 h hM hf1 hu1 h23 hw1
      refine ev_aload_n dX3_writesNode_61 rfl ?_
      refine mx_getI hM dX3_writesNode_62 gf_X3_174_X3 rfl ?_
      try simp only [uS_1, uA_1, uF_1, uS_2, uA_2a, uF_2a, Nat.reduceEqDiff, reduceIte, Int.reduceToNat, Int.toNat_natCast]
      rw [h23]
      refine ev_if_leZ (tgt := 83) dX3_writesNode_65 (by decide) (by simp only [List.length_cons, List.length_nil] at *; omega) (fun c => absurd c (by simp only [List.length_cons] at *; omega)) (fun _ => ?_)
      refine ev_aload_n dX3_writesNode_68 rfl ?_
      refine mx_getA hM dX3_writesNode_69 gf_X3_51_X3 rfl ?_
      refine ev_aload_n dX3_writesNode_72 rfl ?_
      refine mx_getI hM dX3_writesNode_73 gf_X3_174_X3 rfl ?_
      try simp only [uS_1, uA_1, uF_1, uS_2, uA_2a, uF_2a, Nat.reduceEqDiff, reduceIte, Int.reduceToNat, Int.toNat_natCast]
      rw [h23]
      refine ev_iconstZ dX3_writesNode_76 ?_
      refine ev_isubZ dX3_writesNode_77 ?_
      refine ev_to (b := ((τ.length : Nat) : Int)) (by simp only [List.length_cons]; omega) ?_
      refine ev_dup2 dX3_writesNode_78 rfl rfl ?_
      refine mx_iald hM rfl dX3_writesNode_79 (by omega) ?_
      try simp only [uS_1, uA_1, uF_1, uS_2, uA_2a, uF_2a, Nat.reduceEqDiff, reduceIte, Int.reduceToNat, Int.toNat_natCast]
      rw [hw1.1.2.2.1]
      refine ev_iconstZ dX3_writesNode_80 ?_
      refine ev_iaddZ dX3_writesNode_81 ?_
      refine mx_iast hM rfl dX3_writesNode_82 (by omega) (fun h hM => ?_)
      rw [Int.toNat_natCast] at hM
      refine Ev.forget (T83 _ h hM (fr.A hf1 rfl) (hu1.fr (fr.A (fr.refl _ [] [27]) rfl) rfl rfl) h23 ?_) (by repeat' first | exact rfl | exact trivial | exact vz_eq (by omega) | refine And.intro ?_ ?_)
      obtain ⟨⟨w1, w2, w3, w4⟩, w5, w6⟩ := hw1
      refine ⟨⟨w1, w2, by simp only [uS_1, uA_1, uF_1, uS_2, uA_2a, uF_2a, Nat.reduceEqDiff, reduceIte, Int.reduceToNat, Int.toNat_natCast]; rfl, w4⟩, ⟨w5.1, w5.2.1, w5.2.2.1, ?_⟩, wkAt.low (n := τ.length) (fun i hi => ?_) (Nat.le_refl _) w6⟩
      · show O.2.2.1 + 1 + O.2.1 ≤ 1100; have := hroom O τ rfl; omega
      · refine ⟨?_, ?_, ?_, ?_⟩ <;> (try simp only [uS_1, uA_1, uF_1, uS_2, uA_2a, uF_2a, Nat.reduceEqDiff, reduceIte, Int.reduceToNat, Int.toNat_natCast]) <;> (try rw [if_neg (by omega)])
    refine ev_aload_n dX3_writesNode_0 rfl ?_
    refine mx_getI hM dX3_writesNode_1 gf_X3_174_X3 rfl ?_
    try simp only [uS_1, uA_1, uF_1, uS_2, uA_2a, uF_2a, Nat.reduceEqDiff, reduceIte, Int.reduceToNat, Int.toNat_natCast]
    rw [h23]
    refine ev_if_leZ (tgt := 21) dX3_writesNode_4 (by decide) (by simp only [List.length_cons, List.length_nil] at *; omega) (fun c => absurd c (by simp only [List.length_cons] at *; omega)) (fun _ => ?_)
    refine ev_aload_n dX3_writesNode_7 rfl ?_
    refine mx_getA hM dX3_writesNode_8 gf_X3_42_X3 rfl ?_
    refine ev_aload_n dX3_writesNode_11 rfl ?_
    refine mx_getI hM dX3_writesNode_12 gf_X3_174_X3 rfl ?_
    try simp only [uS_1, uA_1, uF_1, uS_2, uA_2a, uF_2a, Nat.reduceEqDiff, reduceIte, Int.reduceToNat, Int.toNat_natCast]
    rw [h23]
    refine ev_iconstZ dX3_writesNode_15 ?_
    refine ev_isubZ dX3_writesNode_16 ?_
    refine ev_to (b := ((τ.length : Nat) : Int)) (by simp only [List.length_cons]; omega) ?_
    refine mx_iald hM rfl dX3_writesNode_17 (by omega) ?_
    try simp only [uS_1, uA_1, uF_1, uS_2, uA_2a, uF_2a, Nat.reduceEqDiff, reduceIte, Int.reduceToNat, Int.toNat_natCast]
    rw [hw.1.1]
    refine ev_to (b := paI (paW (O :: τ))) (by unfold paI; rw [if_neg (by have := hw.2.1.2.1; have : paW (O :: τ) = O.1 := rfl; omega)]; rfl) ?_
    refine ev_goto (tgt := 22) dX3_writesNode_18 (by decide) ?_
    refine ev_istore_n dX3_writesNode_22 (by decide) rfl ?_
    dsimp only [List.set]
    refine ev_aload_n dX3_writesNode_23 rfl ?_
    refine mx_getI hM dX3_writesNode_24 gf_X3_174_X3 rfl ?_
    try simp only [uS_1, uA_1, uF_1, uS_2, uA_2a, uF_2a, Nat.reduceEqDiff, reduceIte, Int.reduceToNat, Int.toNat_natCast]
    rw [h23]
    refine ev_if_leZ (tgt := 61) dX3_writesNode_27 (by decide) (by simp only [List.length_cons, List.length_nil] at *; omega) (fun c => absurd c (by simp only [List.length_cons] at *; omega)) (fun _ => ?_)
    refine ev_aload_n dX3_writesNode_30 rfl ?_
    refine mx_getA hM dX3_writesNode_31 gf_X3_51_X3 rfl ?_
    refine ev_aload_n dX3_writesNode_34 rfl ?_
    refine mx_getI hM dX3_writesNode_35 gf_X3_174_X3 rfl ?_
    try simp only [uS_1, uA_1, uF_1, uS_2, uA_2a, uF_2a, Nat.reduceEqDiff, reduceIte, Int.reduceToNat, Int.toNat_natCast]
    rw [h23]
    refine ev_iconstZ dX3_writesNode_38 ?_
    refine ev_isubZ dX3_writesNode_39 ?_
    refine ev_to (b := ((τ.length : Nat) : Int)) (by simp only [List.length_cons]; omega) ?_
    refine mx_iald hM rfl dX3_writesNode_40 (by omega) ?_
    try simp only [uS_1, uA_1, uF_1, uS_2, uA_2a, uF_2a, Nat.reduceEqDiff, reduceIte, Int.reduceToNat, Int.toNat_natCast]
    rw [hw.1.2.2.1]
    refine ev_if_leZ (tgt := 61) dX3_writesNode_41 (by decide) (by have := hw.2.1.2.2.2; omega) (fun c41 => ?_) (fun c41 => ?_)
    · exact Ev.forget (T61 s h hM (fr.refl _ _ _) (by have : sepW (O :: τ) = [] := if_neg (by omega); rw [this, List.append_nil]; exact hu) h23 hw) (by repeat' first | exact rfl | exact trivial | exact vz_eq (by omega) | refine And.intro ?_ ?_)
    · have es : sepW (O :: τ) = [if O.1 = 7 then 59 else 124] := if_pos (by omega)
      refine ev_aload_n dX3_writesNode_44 rfl ?_
      refine ev_iload_n dX3_writesNode_45 rfl ?_
      refine ev_bipushZ dX3_writesNode_46 rfl ?_
      refine ev_icmp_neZ (tgt := 56) dX3_writesNode_48 (by decide) (by unfold paI; split <;> (have := hw.2.1.2.1; have : paW (O :: τ) = O.1 := rfl; omega)) (by omega) (fun c48 => ?_) (fun c48 => ?_)
      · refine ev_bipushZ dX3_writesNode_56 rfl ?_
        refine ev_to (b := (((if O.1 = 7 then 59 else 124 : Nat)) : Int)) (by rw [if_neg (by have : paI (paW (O :: τ)) = O.1 := if_neg (by have := hw.2.1.2.1; show ¬ O.1 = 9; omega); omega)]; rfl) ?_
        refine mx_callP dX3_writesNode_58 cv_X3_291_X3 ce_X3_writes hM rfl rfl (k_writes (u := u) (c1 := (if O.1 = 7 then 59 else 124)) hM hu (by have := hl; rw [es] at this; simp at this; omega) (by split <;> omega) (d := d - 1) (by omega)) (by omega) (Nat.le_of_ble_eq_true rfl) (fun v s2 h hP hM => ?_)
        obtain ⟨rfl, f2, hu2⟩ := hP
        exact Ev.forget (T61 s2 h hM (f2.more rfl rfl) (by rw [es]; exact hu2) ((f2.1 23 (by decide)).trans h23) (hw.fr f2 rfl)) (by repeat' first | exact rfl | exact trivial | exact vz_eq (by omega) | refine And.intro ?_ ?_)
      · refine ev_bipushZ dX3_writesNode_51 rfl ?_
        refine ev_to (b := (((if O.1 = 7 then 59 else 124 : Nat)) : Int)) (by rw [if_pos (by have : paI (paW (O :: τ)) = O.1 := if_neg (by have := hw.2.1.2.1; show ¬ O.1 = 9; omega); omega)]; rfl) ?_
        refine ev_goto (tgt := 58) dX3_writesNode_53 (by decide) ?_
        refine mx_callP dX3_writesNode_58 cv_X3_291_X3 ce_X3_writes hM rfl rfl (k_writes (u := u) (c1 := (if O.1 = 7 then 59 else 124)) hM hu (by have := hl; rw [es] at this; simp at this; omega) (by split <;> omega) (d := d - 1) (by omega)) (by omega) (Nat.le_of_ble_eq_true rfl) (fun v s2 h hP hM => ?_)
        obtain ⟨rfl, f2, hu2⟩ := hP
        exact Ev.forget (T61 s2 h hM (f2.more rfl rfl) (by rw [es]; exact hu2) ((f2.1 23 (by decide)).trans h23) (hw.fr f2 rfl)) (by repeat' first | exact rfl | exact trivial | exact vz_eq (by omega) | refine And.intro ?_ ?_)
end P12

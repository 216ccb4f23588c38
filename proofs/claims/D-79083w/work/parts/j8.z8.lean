/-! the reference: plan, 5 (printed by gen) -/
section Z8
variable {g : GB} {M : MI} {d c k : Nat} {Q : RS → HM → Prop} {pc : Nat} {ls : List (Option Value)} {st : List Value} {h : HM} {a b : Int} {ad : Nat → Nat} {o : Nat} {h0 : HM} {s : MSt}
theorem syP_step {L : PL} {x k : Nat} (hk : k ≤ 20) : syP L x k = (syP L x (k + 1) && frP L k x) := by
  cases h : syP L x k with
  | true =>
    have h1 := syP_iff.mp h
    rw [syP_iff.mpr (fun j hj1 hj2 => h1 j (by omega) hj2), h1 k (Nat.le_refl k) hk]; rfl
  | false =>
    cases h1 : syP L x (k + 1) with
    | false => rfl
    | true =>
      cases h2 : frP L k x with
      | false => rfl
      | true =>
        have h3 := syP_iff.mp h1
        rw [syP_iff.mpr (fun j hj1 hj2 => by
          by_cases e : j = k
          · rw [e]; exact h2
          · exact h3 j (by omega) hj2)] at h
        cases h
theorem syP_21 (L : PL) (x : Nat) : syP L x 21 = true := syP_iff.mpr (fun j h1 h2 => by omega)
/-- the first count from T on at which the path can end -/
def enT (C R : Nat) (L : PL) (st gl T : Nat) : Option Nat := (List.range 21).find? fun j => decide (T ≤ j) && (rcP C R L st j gl && syP L gl j)
theorem enT_21 (C R : Nat) (L : PL) (st gl : Nat) : enT C R L st gl 21 = none := find_no (fun j hj => by rw [decide_eq_false (by omega), Bool.false_and])
theorem enT_0 (C R : Nat) (L : PL) (st gl : Nat) : enT C R L st gl 0 = enP C R L st gl := by
  unfold enT enP
  congr 1
theorem enT_step {C R : Nat} {L : PL} {st gl T : Nat} (hT : T ≤ 20) : enT C R L st gl T = if (rcP C R L st T gl && syP L gl T) = true then some T else enT C R L st gl (T + 1) := by
  by_cases h : (rcP C R L st T gl && syP L gl T) = true
  · rw [if_pos h]
    exact find_of (by omega) (by rw [decide_eq_true (Nat.le_refl T), h]; rfl) (fun j hj => by rw [decide_eq_false (by omega), Bool.false_and])
  · rw [if_neg h]
    unfold enT
    congr 1
    funext j
    by_cases e : j = T
    · rw [e, Bool.eq_false_iff.mpr h, Bool.and_false, Bool.and_false]
    · by_cases e2 : T ≤ j
      · rw [decide_eq_true e2, decide_eq_true (show T + 1 ≤ j by omega)]
      · rw [decide_eq_false e2, decide_eq_false (show ¬ T + 1 ≤ j by omega)]
def oI (x : Option Nat) : Int := match x with
  | none => -1
  | some k => k
theorem oI_in {C R : Nat} {L : PL} {st gl T : Nat} : -1 ≤ oI (enT C R L st gl T) ∧ oI (enT C R L st gl T) ≤ 20 := by
  cases h : enT C R L st gl T with
  | none => exact ⟨by show (-1 : Int) ≤ -1; omega, by show (-1 : Int) ≤ 20; omega⟩
  | some k => have := (find_some h).1; exact ⟨by show (-1 : Int) ≤ (k : Int); omega, by show (k : Int) ≤ 20; omega⟩
set_option maxRecDepth 100000 in
set_option maxHeartbeats 4000000 in
theorem fd_end {D : Dn} {P : Pt} {fm n : Nat} {L : PL} (hD : dnAt (s.2 1) D) (hO : dnOk D) (hs17 : s.1 17 = ((P.1.1 : Nat) : Int)) (h99 : P.1.1 ≤ 99) (hp : plAt s D P) (hE : endOk D P) (hpn : pnAt s D P fm n L) (hfm : fm < 4) {dn : Nat} (hdn : dn < 8) (hLd : L dn = none) (hL9 : ∀ (e : Nat) (f : Nat → Nat), e < 8 → L e = some f → ∀ k, k ≤ 20 → f k < 100) {s0 gl : Nat} {k9 : Nat} (hgl : gl < D.1.1 * D.1.2) {A : Nat → Int} {z5 z6 z7 : Option Value} (hM : MX g ad o h0 (uF s 51 A) h) (hA : ∀ j x : Nat, j < 21 → x < D.1.1 * D.1.2 → A (81 * j + x) = bI (rcP D.1.1 D.1.2 L s0 j x)) (hd : 6 ≤ d) (hE9 : ∀ h' : HM, MX g ad o h0 (uF s 51 A) h' → Ev g mX3_finds d c k9 Q 238 [some (.ref o), some (vz (fm : Int)), some (vz (dn : Int)), some (vz (gl : Int)), some (vz ((D.1.1 * D.1.2 : Nat) : Int)), some (vz (oI (enP D.1.1 D.1.2 L s0 gl))), none, none, none, none] [] h') : Ev g mX3_finds d c k9 Q 164 [some (.ref o), some (vz (fm : Int)), some (vz (dn : Int)), some (vz (gl : Int)), some (vz ((D.1.1 * D.1.2 : Nat) : Int)), z5, z6, z7, none, none] [] h := by
  have hCR : D.1.1 * D.1.2 ≤ 81 := Nat.mul_le_mul hO.2.1 hO.2.2.2.1
  refine ev_iconstZ dX3_finds_164 ?_
  refine ev_istore dX3_finds_165 (by decide) rfl ?_
  dsimp only [List.set]
  refine ev_iconstZ dX3_finds_167 ?_
  refine ev_istore dX3_finds_168 (by decide) rfl ?_
  dsimp only [List.set]
  refine ev_bipushZ dX3_finds_170 rfl ?_
  refine ev_istore dX3_finds_172 (by decide) rfl ?_
  dsimp only [List.set]
  refine ev_for 21 (fun i h => MX g ad o h0 (uF s 51 A) h) (fun i => [some (.ref o), some (vz (fm : Int)), some (vz (dn : Int)), some (vz (gl : Int)), some (vz ((D.1.1 * D.1.2 : Nat) : Int)), some (vz (oI (enT D.1.1 D.1.2 L s0 gl (21 - (i))))), some (vz (bI (syP L gl (21 - (i))))), some (vz (20 - (((i) : Nat) : Int))), none, none]) 0 (by omega) hM ⟨rfl, rfl, rfl, rfl, rfl, by rw [enT_21]; rfl, by rw [syP_21]; rfl, vz_eq (by omega), trivial⟩ (fun i h hi1 hi2 hX hN => ?_) (fun h hX => ?_)
  · clear hM
    have hM : MX g ad o h0 (uF s 51 A) h := hX
    have hin := oI_in (C := D.1.1) (R := D.1.2) (L := L) (st := s0) (gl := gl) (T := 21 - i)
    have hsy : syP L gl (21 - (i + 1)) = (syP L gl (21 - i) && frP L (20 - i) gl) := by rw [show 21 - (i + 1) = 20 - i by omega, syP_step (by omega), show 20 - i + 1 = 21 - i by omega]
    have hen : enT D.1.1 D.1.2 L s0 gl (21 - (i + 1)) = if (rcP D.1.1 D.1.2 L s0 (20 - i) gl && syP L gl (21 - (i + 1))) = true then some (20 - i) else enT D.1.1 D.1.2 L s0 gl (21 - i) := by rw [show 21 - (i + 1) = 20 - i by omega, enT_step (by omega), show 20 - i + 1 = 21 - i by omega]
    cases h1 : syP L gl (21 - i) with
    | false =>
      skip
      refine ev_iload dX3_finds_174 rfl ?_
      refine ev_if_ltZ (tgt := 238) dX3_finds_176 (by decide) (by omega) (fun c => absurd c (by omega)) (fun _ => ?_)
      refine ev_iload dX3_finds_179 rfl ?_
      refine ev_if_eqB (tgt := 200) dX3_finds_181 (by decide) (fun _ => ?_) (fun c => by cases c)
      refine ev_iconstZ dX3_finds_200 ?_
      refine ev_istore dX3_finds_201 (by decide) rfl ?_
      dsimp only [List.set]
      refine ev_iload dX3_finds_203 rfl ?_
      refine ev_if_eqZ (tgt := 228) dX3_finds_205 (by decide) (by omega) (fun _ => ?_) (fun c => absurd rfl c)
      refine ev_iload dX3_finds_228 rfl ?_
      refine ev_istore dX3_finds_230 (by decide) rfl ?_
      dsimp only [List.set]
      refine ev_iincZ dX3_finds_232 rfl (by decide) rfl ?_
      dsimp only [List.set]
      refine ev_goto (tgt := 174) dX3_finds_235 (by decide) ?_
      refine hN _ _ ⟨rfl, rfl, rfl, rfl, rfl, ?_, ?_, vz_eq (by omega), trivial⟩ hM
      · rw [hen, if_neg (by rw [hsy, h1]; simp)]
      · rw [hsy, h1, Bool.false_and]; rfl
    | true =>
      cases h2 : frP L (20 - i) gl with
      | false =>
        refine ev_iload dX3_finds_174 rfl ?_
        refine ev_if_ltZ (tgt := 238) dX3_finds_176 (by decide) (by omega) (fun c => absurd c (by omega)) (fun _ => ?_)
        refine ev_iload dX3_finds_179 rfl ?_
        refine ev_if_eqB (tgt := 200) dX3_finds_181 (by decide) (fun c => by cases c) (fun _ => ?_)
        refine ev_aload_n dX3_finds_184 rfl ?_
        refine ev_iload_n dX3_finds_185 rfl ?_
        refine ev_iload_n dX3_finds_186 rfl ?_
        refine ev_iload dX3_finds_187 rfl ?_
        refine ev_to (b := ((20 - i : Nat) : Int)) (by omega) ?_
        refine ev_iload_n dX3_finds_189 rfl ?_
        refine mx_call dX3_finds_190 cv_X3_391_X3 ce_X3_isFree hM rfl rfl (k_isFree (D := D) (P := P) (fm := fm) (n := n) (L := L) (dn := dn) (k := 20 - i) (x := gl) hM hD hO hs17 h99 hp hE hpn hfm hdn (by omega) (by omega) hLd hL9 (d := d - 1) (by omega)) (by omega) (Nat.le_of_ble_eq_true rfl) (fun h hM => ?_)
        refine ev_if_eqB (tgt := 200) dX3_finds_193 (by decide) (fun _ => ?_) (fun c => by rw [h2] at c; cases c)
        refine ev_iconstZ dX3_finds_200 ?_
        refine ev_istore dX3_finds_201 (by decide) rfl ?_
        dsimp only [List.set]
        refine ev_iload dX3_finds_203 rfl ?_
        refine ev_if_eqZ (tgt := 228) dX3_finds_205 (by decide) (by omega) (fun _ => ?_) (fun c => absurd rfl c)
        refine ev_iload dX3_finds_228 rfl ?_
        refine ev_istore dX3_finds_230 (by decide) rfl ?_
        dsimp only [List.set]
        refine ev_iincZ dX3_finds_232 rfl (by decide) rfl ?_
        dsimp only [List.set]
        refine ev_goto (tgt := 174) dX3_finds_235 (by decide) ?_
        refine hN _ _ ⟨rfl, rfl, rfl, rfl, rfl, ?_, ?_, vz_eq (by omega), trivial⟩ hM
        · rw [hen, if_neg (by rw [hsy, h2]; simp)]
        · rw [hsy, h2, Bool.and_false]; rfl
      | true =>
        cases h3 : rcP D.1.1 D.1.2 L s0 (20 - i) gl with
        | false =>
          refine ev_iload dX3_finds_174 rfl ?_
          refine ev_if_ltZ (tgt := 238) dX3_finds_176 (by decide) (by omega) (fun c => absurd c (by omega)) (fun _ => ?_)
          refine ev_iload dX3_finds_179 rfl ?_
          refine ev_if_eqB (tgt := 200) dX3_finds_181 (by decide) (fun c => by cases c) (fun _ => ?_)
          refine ev_aload_n dX3_finds_184 rfl ?_
          refine ev_iload_n dX3_finds_185 rfl ?_
          refine ev_iload_n dX3_finds_186 rfl ?_
          refine ev_iload dX3_finds_187 rfl ?_
          refine ev_to (b := ((20 - i : Nat) : Int)) (by omega) ?_
          refine ev_iload_n dX3_finds_189 rfl ?_
          refine mx_call dX3_finds_190 cv_X3_391_X3 ce_X3_isFree hM rfl rfl (k_isFree (D := D) (P := P) (fm := fm) (n := n) (L := L) (dn := dn) (k := 20 - i) (x := gl) hM hD hO hs17 h99 hp hE hpn hfm hdn (by omega) (by omega) hLd hL9 (d := d - 1) (by omega)) (by omega) (Nat.le_of_ble_eq_true rfl) (fun h hM => ?_)
          refine ev_if_eqB (tgt := 200) dX3_finds_193 (by decide) (fun c => by rw [h2] at c; cases c) (fun _ => ?_)
          refine ev_iconstZ dX3_finds_196 ?_
          refine ev_goto (tgt := 201) dX3_finds_197 (by decide) ?_
          refine ev_istore dX3_finds_201 (by decide) rfl ?_
          dsimp only [List.set]
          refine ev_iload dX3_finds_203 rfl ?_
          refine ev_if_eqZ (tgt := 228) dX3_finds_205 (by decide) (by omega) (fun c => absurd c (by decide)) (fun _ => ?_)
          refine ev_aload_n dX3_finds_208 rfl ?_
          refine mx_getA hM dX3_finds_209 gf_X3_101_X3 rfl ?_
          refine ev_bipushZ dX3_finds_212 rfl ?_
          refine ev_iload dX3_finds_214 rfl ?_
          refine ev_imulZ dX3_finds_216 ?_
          refine ev_iload_n dX3_finds_217 rfl ?_
          refine ev_iaddZ dX3_finds_218 ?_
          refine ev_to (b := ((81 * (20 - i) + gl : Nat) : Int)) (by omega) ?_
          refine mx_zald hM rfl dX3_finds_219 (by omega) ?_
          try simp only [uS_1, uA_1, uF_1, uS_2, uA_2a, uF_2a, Nat.reduceEqDiff, reduceIte, Int.reduceToNat, Int.toNat_natCast]
          rw [hA (20 - i) gl (by omega) hgl]
          refine ev_if_eqB (tgt := 228) dX3_finds_220 (by decide) (fun _ => ?_) (fun c => by rw [h3] at c; cases c)
          refine ev_iload dX3_finds_228 rfl ?_
          refine ev_istore dX3_finds_230 (by decide) rfl ?_
          dsimp only [List.set]
          refine ev_iincZ dX3_finds_232 rfl (by decide) rfl ?_
          dsimp only [List.set]
          refine ev_goto (tgt := 174) dX3_finds_235 (by decide) ?_
          refine hN _ _ ⟨rfl, rfl, rfl, rfl, rfl, ?_, ?_, vz_eq (by omega), trivial⟩ hM
          · rw [hen, if_neg (by rw [h3]; simp)]
          · rw [hsy, h1, h2]; rfl
        | true =>
          refine ev_iload dX3_finds_174 rfl ?_
          refine ev_if_ltZ (tgt := 238) dX3_finds_176 (by decide) (by omega) (fun c => absurd c (by omega)) (fun _ => ?_)
          refine ev_iload dX3_finds_179 rfl ?_
          refine ev_if_eqB (tgt := 200) dX3_finds_181 (by decide) (fun c => by cases c) (fun _ => ?_)
          refine ev_aload_n dX3_finds_184 rfl ?_
          refine ev_iload_n dX3_finds_185 rfl ?_
          refine ev_iload_n dX3_finds_186 rfl ?_
          refine ev_iload dX3_finds_187 rfl ?_
          refine ev_to (b := ((20 - i : Nat) : Int)) (by omega) ?_
          refine ev_iload_n dX3_finds_189 rfl ?_
          refine mx_call dX3_finds_190 cv_X3_391_X3 ce_X3_isFree hM rfl rfl (k_isFree (D := D) (P := P) (fm := fm) (n := n) (L := L) (dn := dn) (k := 20 - i) (x := gl) hM hD hO hs17 h99 hp hE hpn hfm hdn (by omega) (by omega) hLd hL9 (d := d - 1) (by omega)) (by omega) (Nat.le_of_ble_eq_true rfl) (fun h hM => ?_)
          refine ev_if_eqB (tgt := 200) dX3_finds_193 (by decide) (fun c => by rw [h2] at c; cases c) (fun _ => ?_)
          refine ev_iconstZ dX3_finds_196 ?_
          refine ev_goto (tgt := 201) dX3_finds_197 (by decide) ?_
          refine ev_istore dX3_finds_201 (by decide) rfl ?_
          dsimp only [List.set]
          refine ev_iload dX3_finds_203 rfl ?_
          refine ev_if_eqZ (tgt := 228) dX3_finds_205 (by decide) (by omega) (fun c => absurd c (by decide)) (fun _ => ?_)
          refine ev_aload_n dX3_finds_208 rfl ?_
          refine mx_getA hM dX3_finds_209 gf_X3_101_X3 rfl ?_
          refine ev_bipushZ dX3_finds_212 rfl ?_
          refine ev_iload dX3_finds_214 rfl ?_
          refine ev_imulZ dX3_finds_216 ?_
          refine ev_iload_n dX3_finds_217 rfl ?_
          refine ev_iaddZ dX3_finds_218 ?_
          refine ev_to (b := ((81 * (20 - i) + gl : Nat) : Int)) (by omega) ?_
          refine mx_zald hM rfl dX3_finds_219 (by omega) ?_
          try simp only [uS_1, uA_1, uF_1, uS_2, uA_2a, uF_2a, Nat.reduceEqDiff, reduceIte, Int.reduceToNat, Int.toNat_natCast]
          rw [hA (20 - i) gl (by omega) hgl]
          refine ev_if_eqB (tgt := 228) dX3_finds_220 (by decide) (fun c => by rw [h3] at c; cases c) (fun _ => ?_)
          refine ev_iload dX3_finds_223 rfl ?_
          refine ev_goto (tgt := 230) dX3_finds_225 (by decide) ?_
          refine ev_istore dX3_finds_230 (by decide) rfl ?_
          dsimp only [List.set]
          refine ev_iincZ dX3_finds_232 rfl (by decide) rfl ?_
          dsimp only [List.set]
          refine ev_goto (tgt := 174) dX3_finds_235 (by decide) ?_
          refine hN _ _ ⟨rfl, rfl, rfl, rfl, rfl, ?_, ?_, vz_eq (by omega), trivial⟩ hM
          · rw [hen, if_pos (by rw [h3, hsy, h1, h2]; rfl)]; exact vz_eq (by show _ = ((20 - i : Nat) : Int); omega)
          · rw [hsy, h1, h2]; rfl
  · clear hM
    have hM : MX g ad o h0 (uF s 51 A) h := hX
    refine ev_iload dX3_finds_174 rfl ?_
    refine ev_if_ltZ (tgt := 238) dX3_finds_176 (by decide) (by omega) (fun _ => ?_) (fun c => absurd (by omega) c)
    refine Ev.forget (hE9 _ hM) ?_
    exact ⟨rfl, rfl, rfl, rfl, rfl, by rw [← enT_0], trivial⟩
end Z8

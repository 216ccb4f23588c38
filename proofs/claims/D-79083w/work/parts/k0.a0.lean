/-! the reference: plan, 7 (printed by gen) -/
section KA0
variable {g : GB} {M : MI} {d c k : Nat} {Q : RS → HM → Prop} {pc : Nat} {ls : List (Option Value)} {st : List Value} {h : HM} {a b : Int} {ad : Nat → Nat} {o : Nat} {h0 : HM} {s : MSt}
set_option maxRecDepth 100000 in
set_option maxHeartbeats 4000000 in
theorem fl_mid {D : Dn} {P : Pt} {fm n : Nat} {L : PL} (hD : dnAt (s.2 1) D) (hO : dnOk D) (hs17 : s.1 17 = ((P.1.1 : Nat) : Int)) (h99 : P.1.1 ≤ 99) (hp : plAt s D P) (hE : endOk D P) (hpn : pnAt s D P fm n L) (hfm : fm < 4) {dn : Nat} (hdn : dn < 8) (hLd : L dn = none) (hL9 : ∀ (e : Nat) (f : Nat → Nat), e < 8 → L e = some f → ∀ k, k ≤ 20 → f k < 100) {gl last : Nat} (hl20 : last ≤ 20) {i k9 : Nat} (hi : i < last) {A0 : Nat → Int} (hM : MX g ad o h0 (uF s 52 A0) h) (hA0 : ∀ j x : Nat, j < last + 1 → x < D.1.1 * D.1.2 → A0 (81 * j + x) = bI (ldF D L gl last i 0 0 j x)) (hd : 6 ≤ d) (hE9 : ∀ (h' : HM) (A : Nat → Int), MX g ad o h0 (uF s 52 A) h' → (∀ j x : Nat, j < last + 1 → x < D.1.1 * D.1.2 → A (81 * j + x) = bI (ldF D L gl last (i) (D.1.1 * D.1.2) (0) j x)) → Ev g mX3_finds d c k9 Q 405 [some (.ref o), some (vz (fm : Int)), some (vz (dn : Int)), some (vz (gl : Int)), some (vz ((D.1.1 * D.1.2 : Nat) : Int)), some (vz (last : Int)), none, some (vz ((last : Int) - 1 - (i : Int))), some (vz ((D.1.1 * D.1.2 : Nat) : Int)), none] [] h') : Ev g mX3_finds d c k9 Q 298 [some (.ref o), some (vz (fm : Int)), some (vz (dn : Int)), some (vz (gl : Int)), some (vz ((D.1.1 * D.1.2 : Nat) : Int)), some (vz (last : Int)), none, some (vz ((last : Int) - 1 - (i : Int))), some (vz 0), none] [] h := by
  have hCR : D.1.1 * D.1.2 ≤ 81 := Nat.mul_le_mul hO.2.1 hO.2.2.2.1
  refine ev_for (D.1.1 * D.1.2) (fun p h => ∃ A : Nat → Int, MX g ad o h0 (uF s 52 A) h ∧ ∀ j x : Nat, j < last + 1 → x < D.1.1 * D.1.2 → A (81 * j + x) = bI (ldF D L gl last (i) (p) (0) j x)) (fun p => [some (.ref o), some (vz (fm : Int)), some (vz (dn : Int)), some (vz (gl : Int)), some (vz ((D.1.1 * D.1.2 : Nat) : Int)), some (vz (last : Int)), none, some (vz ((last : Int) - 1 - (i : Int))), some (vz ((p : Nat) : Int)), none]) 0 (by omega) ⟨A0, hM, hA0⟩ ⟨rfl, rfl, rfl, rfl, rfl, rfl, rfl, vz_eq (by omega), trivial⟩ (fun p h hi1 hi2 hX hN => ?_) (fun h hX => ?_)
  · clear hM
    obtain ⟨A, hM, hA⟩ := hX
    refine ev_iload dX3_finds_298 rfl ?_
    refine ev_iload dX3_finds_300 rfl ?_
    refine ev_icmp_geZ (tgt := 405) dX3_finds_302 (by decide) (by omega) (by omega) (fun c => absurd c (by omega)) (fun _ => ?_)
    refine ev_iconstZ dX3_finds_305 ?_
    refine ev_istore dX3_finds_306 (by decide) rfl ?_
    dsimp only [List.set]
    refine fl_inner hD hO hs17 h99 hp hE hpn hfm hdn hLd hL9 hl20 hi hi2 hM hA hd (fun h A hM hA => ?_)
    refine ev_iincZ dX3_finds_399 rfl (by decide) rfl ?_
    dsimp only [List.set]
    refine ev_goto (tgt := 298) dX3_finds_402 (by decide) ?_
    refine hN _ _ ⟨rfl, rfl, rfl, rfl, rfl, rfl, rfl, vz_eq (by omega), trivial⟩ ⟨_, hM, fun j x hj hx => ?_⟩
    rw [hA j x hj hx]
    unfold ldF
    rw [ldS_place id5 id5s]
  · clear hM
    obtain ⟨A, hM, hA⟩ := hX
    refine ev_iload dX3_finds_298 rfl ?_
    refine ev_iload dX3_finds_300 rfl ?_
    refine ev_icmp_geZ (tgt := 405) dX3_finds_302 (by decide) (by omega) (by omega) (fun _ => ?_) (fun c => absurd (by omega) c)
    exact hE9 _ _ hM hA
set_option maxRecDepth 100000 in
set_option maxHeartbeats 4000000 in
theorem fl_out {D : Dn} {P : Pt} {fm n : Nat} {L : PL} (hD : dnAt (s.2 1) D) (hO : dnOk D) (hs17 : s.1 17 = ((P.1.1 : Nat) : Int)) (h99 : P.1.1 ≤ 99) (hp : plAt s D P) (hE : endOk D P) (hpn : pnAt s D P fm n L) (hfm : fm < 4) {dn : Nat} (hdn : dn < 8) (hLd : L dn = none) (hL9 : ∀ (e : Nat) (f : Nat → Nat), e < 8 → L e = some f → ∀ k, k ≤ 20 → f k < 100) {gl last : Nat} (hl20 : last ≤ 20) {k9 : Nat} {A0 : Nat → Int} (hM : MX g ad o h0 (uF s 52 A0) h) (hA0 : ∀ j x : Nat, j < last + 1 → x < D.1.1 * D.1.2 → A0 (81 * j + x) = bI (ldF D L gl last 0 0 0 j x)) (hd : 6 ≤ d) (hE9 : ∀ (h' : HM) (A : Nat → Int), MX g ad o h0 (uF s 52 A) h' → (∀ j x : Nat, j < last + 1 → x < D.1.1 * D.1.2 → A (81 * j + x) = bI (ldP D.1.1 D.1.2 L gl last (last - j) x)) → Ev g mX3_finds d c k9 Q 411 [some (.ref o), some (vz (fm : Int)), some (vz (dn : Int)), some (vz (gl : Int)), some (vz ((D.1.1 * D.1.2 : Nat) : Int)), some (vz (last : Int)), none, none, none, none] [] h') : Ev g mX3_finds d c k9 Q 290 [some (.ref o), some (vz (fm : Int)), some (vz (dn : Int)), some (vz (gl : Int)), some (vz ((D.1.1 * D.1.2 : Nat) : Int)), some (vz (last : Int)), none, some (vz ((last : Int) - 1)), none, none] [] h := by
  have hE9 := fun (h1 : HM) (A : Nat → Int) (q1 : MX g ad o h0 (uF s 52 A) h1) (q2 : ∀ j x : Nat, j < last + 1 → x < D.1.1 * D.1.2 → A (81 * j + x) = bI (ldP D.1.1 D.1.2 L gl last (last - j) x)) => Ev.forget (hE9 h1 A q1 q2) (show wkL [some (.ref o), some (vz (fm : Int)), some (vz (dn : Int)), some (vz (gl : Int)), some (vz ((D.1.1 * D.1.2 : Nat) : Int)), some (vz (last : Int)), none, none, none, none] [some (.ref o), some (vz (fm : Int)), some (vz (dn : Int)), some (vz (gl : Int)), some (vz ((D.1.1 * D.1.2 : Nat) : Int)), some (vz (last : Int)), none, some (vz ((last : Int) - 1 - (last : Int))), none, none] from ⟨rfl, rfl, rfl, rfl, rfl, rfl, trivial⟩)
  have hCR : D.1.1 * D.1.2 ≤ 81 := Nat.mul_le_mul hO.2.1 hO.2.2.2.1
  refine ev_for last (fun i h => ∃ A : Nat → Int, MX g ad o h0 (uF s 52 A) h ∧ ∀ j x : Nat, j < last + 1 → x < D.1.1 * D.1.2 → A (81 * j + x) = bI (ldF D L gl last (i) (0) (0) j x)) (fun i => [some (.ref o), some (vz (fm : Int)), some (vz (dn : Int)), some (vz (gl : Int)), some (vz ((D.1.1 * D.1.2 : Nat) : Int)), some (vz (last : Int)), none, some (vz ((last : Int) - 1 - (i : Int))), none, none]) 0 (by omega) ⟨A0, hM, hA0⟩ ⟨rfl, rfl, rfl, rfl, rfl, rfl, vz_eq (by omega), trivial⟩ (fun i h hi1 hi2 hX hN => ?_) (fun h hX => ?_)
  · clear hM
    obtain ⟨A, hM, hA⟩ := hX
    refine ev_iload dX3_finds_290 rfl ?_
    refine ev_if_ltZ (tgt := 411) dX3_finds_292 (by decide) (by omega) (fun c => absurd c (by omega)) (fun _ => ?_)
    refine ev_iconstZ dX3_finds_295 ?_
    refine ev_istore dX3_finds_296 (by decide) rfl ?_
    dsimp only [List.set]
    refine fl_mid hD hO hs17 h99 hp hE hpn hfm hdn hLd hL9 hl20 hi2 hM hA hd (fun h A hM hA => ?_)
    refine ev_iincZ dX3_finds_405 rfl (by decide) rfl ?_
    dsimp only [List.set]
    refine ev_goto (tgt := 290) dX3_finds_408 (by decide) ?_
    refine hN _ _ ⟨rfl, rfl, rfl, rfl, rfl, rfl, vz_eq (by omega), trivial⟩ ⟨_, hM, fun j x hj hx => ?_⟩
    rw [hA j x hj hx]
    unfold ldF
    rw [ldS_next hi2 hx]
  · clear hM
    obtain ⟨A, hM, hA⟩ := hX
    refine ev_iload dX3_finds_290 rfl ?_
    refine ev_if_ltZ (tgt := 411) dX3_finds_292 (by decide) (by omega) (fun _ => ?_) (fun c => absurd (by omega) c)
    refine hE9 _ _ hM (fun j x hj hx => ?_)
    rw [hA j x hj hx]
    unfold ldF ldS
    rw [if_pos (by omega)]
set_option maxRecDepth 100000 in
set_option maxHeartbeats 4000000 in
theorem fd_come {D : Dn} {P : Pt} {fm n : Nat} {L : PL} (hD : dnAt (s.2 1) D) (hO : dnOk D) (hs17 : s.1 17 = ((P.1.1 : Nat) : Int)) (h99 : P.1.1 ≤ 99) (hp : plAt s D P) (hE : endOk D P) (hpn : pnAt s D P fm n L) (hfm : fm < 4) {dn : Nat} (hdn : dn < 8) (hLd : L dn = none) (hL9 : ∀ (e : Nat) (f : Nat → Nat), e < 8 → L e = some f → ∀ k, k ≤ 20 → f k < 100) {gl last : Nat} (hl20 : last ≤ 20) {k9 : Nat} (hgl : gl < D.1.1 * D.1.2) (hM : MX g ad o h0 s h) (hd : 6 ≤ d) (hE9 : ∀ (h' : HM) (A : Nat → Int), MX g ad o h0 (uF s 52 A) h' → (∀ j x : Nat, j < last + 1 → x < D.1.1 * D.1.2 → A (81 * j + x) = bI (ldP D.1.1 D.1.2 L gl last (last - j) x)) → Ev g mX3_finds d c k9 Q 411 [some (.ref o), some (vz (fm : Int)), some (vz (dn : Int)), some (vz (gl : Int)), some (vz ((D.1.1 * D.1.2 : Nat) : Int)), some (vz (last : Int)), none, none, none, none] [] h') : Ev g mX3_finds d c k9 Q 246 [some (.ref o), some (vz (fm : Int)), some (vz (dn : Int)), some (vz (gl : Int)), some (vz ((D.1.1 * D.1.2 : Nat) : Int)), some (vz (last : Int)), none, none, none, none] [] h := by
  have hCR : D.1.1 * D.1.2 ≤ 81 := Nat.mul_le_mul hO.2.1 hO.2.2.2.1
  refine ev_iconstZ dX3_finds_246 ?_
  refine ev_istore dX3_finds_247 (by decide) rfl ?_
  dsimp only [List.set]
  refine ev_for 1701 (fun i h => ∃ A : Nat → Int, MX g ad o h0 (uF s 52 A) h ∧ ∀ j : Nat, j < i → A j = 0) (fun i => [some (.ref o), some (vz (fm : Int)), some (vz (dn : Int)), some (vz (gl : Int)), some (vz ((D.1.1 * D.1.2 : Nat) : Int)), some (vz (last : Int)), none, some (vz ((i : Nat) : Int)), none, none]) 0 (by omega) ⟨_, MX.self hM 52, fun j hj => by omega⟩ ⟨rfl, rfl, rfl, rfl, rfl, rfl, vz_eq (by omega), trivial⟩ (fun i h hi1 hi2 hX hN => ?_) (fun h hX => ?_)
  · clear hM
    obtain ⟨A, hM, hA⟩ := hX
    refine ev_iload dX3_finds_249 rfl ?_
    refine ev_sipushZ dX3_finds_251 rfl ?_
    refine ev_icmp_geZ (tgt := 271) dX3_finds_254 (by decide) (by omega) (by omega) (fun c => absurd c (by omega)) (fun _ => ?_)
    refine ev_aload_n dX3_finds_257 rfl ?_
    refine mx_getA hM dX3_finds_258 gf_X3_104_X3 rfl ?_
    refine ev_iload dX3_finds_261 rfl ?_
    refine ev_iconstZ dX3_finds_263 ?_
    refine mx_zast hM rfl dX3_finds_264 (by omega) (by omega) (fun h hM => ?_)
    rw [Int.toNat_natCast, uA_uF] at hM
    refine ev_iincZ dX3_finds_265 rfl (by decide) rfl ?_
    dsimp only [List.set]
    refine ev_goto (tgt := 249) dX3_finds_268 (by decide) ?_
    refine hN _ _ ⟨rfl, rfl, rfl, rfl, rfl, rfl, vz_eq (by omega), trivial⟩ ⟨_, hM, fun j hj => ?_⟩
    rw [uz_ap]
    by_cases e : j = i
    · rw [if_pos e]
    · rw [if_neg e]; exact hA j (by omega)
  · clear hM
    obtain ⟨A, hM, hA⟩ := hX
    refine ev_iload dX3_finds_249 rfl ?_
    refine ev_sipushZ dX3_finds_251 rfl ?_
    refine ev_icmp_geZ (tgt := 271) dX3_finds_254 (by decide) (by omega) (by omega) (fun _ => ?_) (fun c => absurd (by omega) c)
    refine ev_aload_n dX3_finds_271 rfl ?_
    refine mx_getA hM dX3_finds_272 gf_X3_104_X3 rfl ?_
    refine ev_bipushZ dX3_finds_275 rfl ?_
    refine ev_iload dX3_finds_277 rfl ?_
    refine ev_imulZ dX3_finds_279 ?_
    refine ev_iload_n dX3_finds_280 rfl ?_
    refine ev_iaddZ dX3_finds_281 ?_
    refine ev_to (b := ((81 * last + gl : Nat) : Int)) (by omega) ?_
    refine ev_iconstZ dX3_finds_282 ?_
    refine mx_zast hM rfl dX3_finds_283 (by omega) (by omega) (fun h hM => ?_)
    rw [Int.toNat_natCast, uA_uF] at hM
    refine ev_iload dX3_finds_284 rfl ?_
    refine ev_iconstZ dX3_finds_286 ?_
    refine ev_isubZ dX3_finds_287 ?_
    refine ev_istore dX3_finds_288 (by decide) rfl ?_
    dsimp only [List.set]
    refine fl_out hD hO hs17 h99 hp hE hpn hfm hdn hLd hL9 hl20 hM (fun j x hj hx => ?_) hd hE9
    rw [uz_ap]
    unfold ldF ldS
    by_cases e : 81 * j + x = 81 * last + gl
    · obtain rfl : j = last := by omega
      rw [if_pos e, if_pos (by omega), Nat.sub_self, show x = gl by omega]
      show (1 : Int) = bI (decide (gl = gl))
      rw [decide_eq_true rfl]; rfl
    · rw [if_neg e, hA _ (by omega)]
      by_cases e2 : j = last
      · rw [if_pos (by omega), e2, Nat.sub_self]
        show (0 : Int) = bI (decide (x = gl))
        rw [decide_eq_false (by omega)]; rfl
      · rw [if_neg (by omega)]
        split
        · rw [if_neg (Nat.not_lt_zero x)]
          split
          · rfl
          · rfl
        · rfl
end KA0

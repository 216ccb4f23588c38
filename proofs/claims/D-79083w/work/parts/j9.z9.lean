/-! the reference: plan, 6 (printed by gen) -/
section Z9
variable {g : GB} {M : MI} {d c k : Nat} {Q : RS → HM → Prop} {pc : Nat} {ls : List (Option Value)} {st : List Value} {h : HM} {a b : Int} {ad : Nat → Nat} {o : Nat} {h0 : HM} {s : MSt}
def ldF (D : Dn) (L : PL) (gl last i p q j x : Nat) : Bool := ldS D.1.1 D.1.2 L gl last (fun q => q) i p q j x
def ldW (D : Dn) (L : PL) (gl last i p q : Nat) : Bool := ldV D.1.1 D.1.2 L gl last (fun q => q) i p q
theorem ldW_s (D : Dn) (L : PL) (gl last i p q : Nat) : ldW D L gl last i p (q + 1) = (ldW D L gl last i p q || match nbP D.1.1 D.1.2 p q with
  | none => false
  | some y => ldP D.1.1 D.1.2 L gl last i y && goP L (last - (i + 1)) p y) := ldV_s _ _ _ _ _ _ _ _ _
theorem ld_put {D : Dn} {L : PL} {gl last i p q j x : Nat} {A : Nat → Int} (hi : i < last) (hx : x < 81) (hp : p < 81) (hA : A (81 * j + x) = bI (ldF D L gl last i p q j x)) : uz A (81 * (last - (i + 1)) + p) (bI (ldW D L gl last i p (q + 1))) (81 * j + x) = bI (ldF D L gl last i p (q + 1) j x) := by
  rw [uz_ap]
  by_cases e : j = last - (i + 1) ∧ x = p
  · obtain ⟨rfl, rfl⟩ := e
    rw [if_pos rfl]
    unfold ldF ldW
    rw [ldS_here hi]
  · rw [if_neg (fun q9 => e ⟨by omega, by omega⟩), hA]
    unfold ldF
    rw [ldS_else e hi]
set_option maxRecDepth 100000 in
set_option maxHeartbeats 4000000 in
theorem fl_inner {D : Dn} {P : Pt} {fm n : Nat} {L : PL} (hD : dnAt (s.2 1) D) (hO : dnOk D) (hs17 : s.1 17 = ((P.1.1 : Nat) : Int)) (h99 : P.1.1 ≤ 99) (hp : plAt s D P) (hE : endOk D P) (hpn : pnAt s D P fm n L) (hfm : fm < 4) {dn : Nat} (hdn : dn < 8) (hLd : L dn = none) (hL9 : ∀ (e : Nat) (f : Nat → Nat), e < 8 → L e = some f → ∀ k, k ≤ 20 → f k < 100) {gl last : Nat} (hl20 : last ≤ 20) {i p k9 : Nat} (hi : i < last) (hpp : p < D.1.1 * D.1.2) {A0 : Nat → Int} (hM : MX g ad o h0 (uF s 52 A0) h) (hA0 : ∀ j x : Nat, j < last + 1 → x < D.1.1 * D.1.2 → A0 (81 * j + x) = bI (ldF D L gl last i p 0 j x)) (hd : 6 ≤ d) (hE9 : ∀ (h' : HM) (A : Nat → Int), MX g ad o h0 (uF s 52 A) h' → (∀ j x : Nat, j < last + 1 → x < D.1.1 * D.1.2 → A (81 * j + x) = bI (ldF D L gl last (i) (p) (5) j x)) → Ev g mX3_finds d c k9 Q 399 [some (.ref o), some (vz (fm : Int)), some (vz (dn : Int)), some (vz (gl : Int)), some (vz ((D.1.1 * D.1.2 : Nat) : Int)), some (vz (last : Int)), none, some (vz ((last : Int) - 1 - (i : Int))), some (vz ((p : Nat) : Int)), some (vz ((5 : Nat) : Int))] [] h') : Ev g mX3_finds d c k9 Q 308 [some (.ref o), some (vz (fm : Int)), some (vz (dn : Int)), some (vz (gl : Int)), some (vz ((D.1.1 * D.1.2 : Nat) : Int)), some (vz (last : Int)), none, some (vz ((last : Int) - 1 - (i : Int))), some (vz ((p : Nat) : Int)), some (vz 0)] [] h := by
  have hCR : D.1.1 * D.1.2 ≤ 81 := Nat.mul_le_mul hO.2.1 hO.2.2.2.1
  refine ev_for 5 (fun q h => ∃ A : Nat → Int, MX g ad o h0 (uF s 52 A) h ∧ ∀ j x : Nat, j < last + 1 → x < D.1.1 * D.1.2 → A (81 * j + x) = bI (ldF D L gl last (i) (p) (q) j x)) (fun q => [some (.ref o), some (vz (fm : Int)), some (vz (dn : Int)), some (vz (gl : Int)), some (vz ((D.1.1 * D.1.2 : Nat) : Int)), some (vz (last : Int)), none, some (vz ((last : Int) - 1 - (i : Int))), some (vz ((p : Nat) : Int)), some (vz ((q : Nat) : Int))]) 0 (by omega) ⟨A0, hM, hA0⟩ ⟨rfl, rfl, rfl, rfl, rfl, rfl, rfl, rfl, vz_eq (by omega), trivial⟩ (fun q h hi1 hi2 hX hN => ?_) (fun h hX => ?_)
  · clear hM
    obtain ⟨A, hM, hA⟩ := hX
    have hw := ldW_s D L gl last i p q
    cases hv : ldW D L gl last i p q with
    | true =>
      rw [hv, Bool.true_or] at hw
      refine ev_iload dX3_finds_308 rfl ?_
      refine ev_iconstZ dX3_finds_310 ?_
      refine ev_icmp_geZ (tgt := 399) dX3_finds_311 (by decide) (by omega) (by omega) (fun c => absurd c (by omega)) (fun _ => ?_)
      refine ev_aload_n dX3_finds_314 rfl ?_
      refine mx_getA hM dX3_finds_315 gf_X3_104_X3 rfl ?_
      refine ev_bipushZ dX3_finds_318 rfl ?_
      refine ev_iload dX3_finds_320 rfl ?_
      refine ev_imulZ dX3_finds_322 ?_
      refine ev_iload dX3_finds_323 rfl ?_
      refine ev_iaddZ dX3_finds_325 ?_
      refine ev_to (b := ((81 * (last - (i + 1)) + p : Nat) : Int)) (by omega) ?_
      refine ev_aload_n dX3_finds_326 rfl ?_
      refine mx_getA hM dX3_finds_327 gf_X3_104_X3 rfl ?_
      refine ev_bipushZ dX3_finds_330 rfl ?_
      refine ev_iload dX3_finds_332 rfl ?_
      refine ev_imulZ dX3_finds_334 ?_
      refine ev_iload dX3_finds_335 rfl ?_
      refine ev_iaddZ dX3_finds_337 ?_
      refine ev_to (b := ((81 * (last - (i + 1)) + p : Nat) : Int)) (by omega) ?_
      refine mx_zald hM rfl dX3_finds_338 (by omega) ?_
      try simp only [uS_1, uA_1, uF_1, uS_2, uA_2a, uF_2a, Nat.reduceEqDiff, reduceIte, Int.reduceToNat, Int.toNat_natCast]
      rw [show A (81 * (last - (i + 1)) + p) = bI (ldW D L gl last i p q) by rw [hA _ p (by omega) hpp]; unfold ldF ldW; rw [ldS_here hi]]
      refine ev_if_neB (tgt := 387) dX3_finds_339 (by decide) (fun _ => ?_) (fun c => by rw [hv] at c; cases c)
      refine ev_iconstZ dX3_finds_387 ?_
      refine ev_goto (tgt := 392) dX3_finds_388 (by decide) ?_
      refine mx_zast hM rfl dX3_finds_392 (by omega) (by omega) (fun h hM => ?_)
      rw [Int.toNat_natCast, uA_uF] at hM
      refine ev_iincZ dX3_finds_393 rfl (by decide) rfl ?_
      dsimp only [List.set]
      refine ev_goto (tgt := 308) dX3_finds_396 (by decide) ?_
      refine hN _ _ ⟨rfl, rfl, rfl, rfl, rfl, rfl, rfl, rfl, vz_eq (by omega), trivial⟩ ⟨_, hM, fun j x hj hx => ?_⟩
      rw [show (1 : Int) = bI (ldW D L gl last i p (q + 1)) by rw [hw]; rfl]
      exact ld_put hi (by omega) (by omega) (hA j x hj hx)
    | false =>
      rw [hv, Bool.false_or] at hw
      cases hnb : nbP D.1.1 D.1.2 p q with
      | none =>
        rw [hnb] at hw
        refine ev_iload dX3_finds_308 rfl ?_
        refine ev_iconstZ dX3_finds_310 ?_
        refine ev_icmp_geZ (tgt := 399) dX3_finds_311 (by decide) (by omega) (by omega) (fun c => absurd c (by omega)) (fun _ => ?_)
        refine ev_aload_n dX3_finds_314 rfl ?_
        refine mx_getA hM dX3_finds_315 gf_X3_104_X3 rfl ?_
        refine ev_bipushZ dX3_finds_318 rfl ?_
        refine ev_iload dX3_finds_320 rfl ?_
        refine ev_imulZ dX3_finds_322 ?_
        refine ev_iload dX3_finds_323 rfl ?_
        refine ev_iaddZ dX3_finds_325 ?_
        refine ev_to (b := ((81 * (last - (i + 1)) + p : Nat) : Int)) (by omega) ?_
        refine ev_aload_n dX3_finds_326 rfl ?_
        refine mx_getA hM dX3_finds_327 gf_X3_104_X3 rfl ?_
        refine ev_bipushZ dX3_finds_330 rfl ?_
        refine ev_iload dX3_finds_332 rfl ?_
        refine ev_imulZ dX3_finds_334 ?_
        refine ev_iload dX3_finds_335 rfl ?_
        refine ev_iaddZ dX3_finds_337 ?_
        refine ev_to (b := ((81 * (last - (i + 1)) + p : Nat) : Int)) (by omega) ?_
        refine mx_zald hM rfl dX3_finds_338 (by omega) ?_
        try simp only [uS_1, uA_1, uF_1, uS_2, uA_2a, uF_2a, Nat.reduceEqDiff, reduceIte, Int.reduceToNat, Int.toNat_natCast]
        rw [show A (81 * (last - (i + 1)) + p) = bI (ldW D L gl last i p q) by rw [hA _ p (by omega) hpp]; unfold ldF ldW; rw [ldS_here hi]]
        refine ev_if_neB (tgt := 387) dX3_finds_339 (by decide) (fun c => by rw [hv] at c; cases c) (fun _ => ?_)
        refine ev_aload_n dX3_finds_342 rfl ?_
        refine ev_iload_n dX3_finds_343 rfl ?_
        refine ev_iload_n dX3_finds_344 rfl ?_
        refine ev_iload dX3_finds_345 rfl ?_
        refine ev_to (b := ((last - (i + 1) : Nat) : Int)) (by omega) ?_
        refine ev_iload dX3_finds_347 rfl ?_
        refine ev_aload_n dX3_finds_349 rfl ?_
        refine ev_iload dX3_finds_350 rfl ?_
        refine ev_iload dX3_finds_352 rfl ?_
        refine mx_call dX3_finds_354 cv_X3_394_X3 ce_X3_stepped hM rfl rfl (k_stepped (D := D) (p := p) (q := q) hM hD hO (by omega) (by omega) (d := d - 1) (by omega)) (by omega) (Nat.le_of_ble_eq_true rfl) (fun h hM => ?_)
        rw [show nbI D.1.1 D.1.2 p q = -1 by unfold nbI; rw [hnb]]
        refine mx_call dX3_finds_357 cv_X3_397_X3 ce_X3_canStep hM rfl rfl (k_canStepN (D := D) (P := P) (fm := fm) (n := n) (L := L) (dn := dn) (k := last - (i + 1)) (p := p) hM hD hO hs17 h99 hp hE hpn hfm hdn (d := d - 1) (by omega)) (by omega) (Nat.le_of_ble_eq_true rfl) (fun h hM => ?_)
        refine ev_if_eqB (tgt := 391) dX3_finds_360 (by decide) (fun _ => ?_) (fun c => by first | cases c | (rw [hv] at c; cases c))
        refine ev_iconstZ dX3_finds_391 ?_
        refine mx_zast hM rfl dX3_finds_392 (by omega) (by omega) (fun h hM => ?_)
        rw [Int.toNat_natCast, uA_uF] at hM
        refine ev_iincZ dX3_finds_393 rfl (by decide) rfl ?_
        dsimp only [List.set]
        refine ev_goto (tgt := 308) dX3_finds_396 (by decide) ?_
        refine hN _ _ ⟨rfl, rfl, rfl, rfl, rfl, rfl, rfl, rfl, vz_eq (by omega), trivial⟩ ⟨_, hM, fun j x hj hx => ?_⟩
        rw [show (0 : Int) = bI (ldW D L gl last i p (q + 1)) by rw [hw]; rfl]
        exact ld_put hi (by omega) (by omega) (hA j x hj hx)
      | some y =>
        rw [hnb] at hw
        dsimp only at hw
        have hy := nb_lt hO hnb
        cases hgo : goP L (last - (i + 1)) p y with
        | false =>
          rw [hgo, Bool.and_false] at hw
          refine ev_iload dX3_finds_308 rfl ?_
          refine ev_iconstZ dX3_finds_310 ?_
          refine ev_icmp_geZ (tgt := 399) dX3_finds_311 (by decide) (by omega) (by omega) (fun c => absurd c (by omega)) (fun _ => ?_)
          refine ev_aload_n dX3_finds_314 rfl ?_
          refine mx_getA hM dX3_finds_315 gf_X3_104_X3 rfl ?_
          refine ev_bipushZ dX3_finds_318 rfl ?_
          refine ev_iload dX3_finds_320 rfl ?_
          refine ev_imulZ dX3_finds_322 ?_
          refine ev_iload dX3_finds_323 rfl ?_
          refine ev_iaddZ dX3_finds_325 ?_
          refine ev_to (b := ((81 * (last - (i + 1)) + p : Nat) : Int)) (by omega) ?_
          refine ev_aload_n dX3_finds_326 rfl ?_
          refine mx_getA hM dX3_finds_327 gf_X3_104_X3 rfl ?_
          refine ev_bipushZ dX3_finds_330 rfl ?_
          refine ev_iload dX3_finds_332 rfl ?_
          refine ev_imulZ dX3_finds_334 ?_
          refine ev_iload dX3_finds_335 rfl ?_
          refine ev_iaddZ dX3_finds_337 ?_
          refine ev_to (b := ((81 * (last - (i + 1)) + p : Nat) : Int)) (by omega) ?_
          refine mx_zald hM rfl dX3_finds_338 (by omega) ?_
          try simp only [uS_1, uA_1, uF_1, uS_2, uA_2a, uF_2a, Nat.reduceEqDiff, reduceIte, Int.reduceToNat, Int.toNat_natCast]
          rw [show A (81 * (last - (i + 1)) + p) = bI (ldW D L gl last i p q) by rw [hA _ p (by omega) hpp]; unfold ldF ldW; rw [ldS_here hi]]
          refine ev_if_neB (tgt := 387) dX3_finds_339 (by decide) (fun c => by rw [hv] at c; cases c) (fun _ => ?_)
          refine ev_aload_n dX3_finds_342 rfl ?_
          refine ev_iload_n dX3_finds_343 rfl ?_
          refine ev_iload_n dX3_finds_344 rfl ?_
          refine ev_iload dX3_finds_345 rfl ?_
          refine ev_to (b := ((last - (i + 1) : Nat) : Int)) (by omega) ?_
          refine ev_iload dX3_finds_347 rfl ?_
          refine ev_aload_n dX3_finds_349 rfl ?_
          refine ev_iload dX3_finds_350 rfl ?_
          refine ev_iload dX3_finds_352 rfl ?_
          refine mx_call dX3_finds_354 cv_X3_394_X3 ce_X3_stepped hM rfl rfl (k_stepped (D := D) (p := p) (q := q) hM hD hO (by omega) (by omega) (d := d - 1) (by omega)) (by omega) (Nat.le_of_ble_eq_true rfl) (fun h hM => ?_)
          rw [show nbI D.1.1 D.1.2 p q = ((y : Nat) : Int) by unfold nbI; rw [hnb]]
          refine mx_call dX3_finds_357 cv_X3_397_X3 ce_X3_canStep hM rfl rfl (k_canStep (D := D) (P := P) (fm := fm) (n := n) (L := L) (dn := dn) (k := last - (i + 1)) (p := p) (x := y) hM hD hO hs17 h99 hp hE hpn hfm hdn (by omega) (by omega) (by omega) hLd hL9 (d := d - 1) (by omega)) (by omega) (Nat.le_of_ble_eq_true rfl) (fun h hM => ?_)
          refine ev_if_eqB (tgt := 391) dX3_finds_360 (by decide) (fun _ => ?_) (fun c => by first | cases c | (rw [hgo] at c; cases c))
          refine ev_iconstZ dX3_finds_391 ?_
          refine mx_zast hM rfl dX3_finds_392 (by omega) (by omega) (fun h hM => ?_)
          rw [Int.toNat_natCast, uA_uF] at hM
          refine ev_iincZ dX3_finds_393 rfl (by decide) rfl ?_
          dsimp only [List.set]
          refine ev_goto (tgt := 308) dX3_finds_396 (by decide) ?_
          refine hN _ _ ⟨rfl, rfl, rfl, rfl, rfl, rfl, rfl, rfl, vz_eq (by omega), trivial⟩ ⟨_, hM, fun j x hj hx => ?_⟩
          rw [show (0 : Int) = bI (ldW D L gl last i p (q + 1)) by rw [hw]; rfl]
          exact ld_put hi (by omega) (by omega) (hA j x hj hx)
        | true =>
          rw [hgo, Bool.and_true] at hw
          cases hld : ldP D.1.1 D.1.2 L gl last i y with
          | false =>
            rw [hld] at hw
            refine ev_iload dX3_finds_308 rfl ?_
            refine ev_iconstZ dX3_finds_310 ?_
            refine ev_icmp_geZ (tgt := 399) dX3_finds_311 (by decide) (by omega) (by omega) (fun c => absurd c (by omega)) (fun _ => ?_)
            refine ev_aload_n dX3_finds_314 rfl ?_
            refine mx_getA hM dX3_finds_315 gf_X3_104_X3 rfl ?_
            refine ev_bipushZ dX3_finds_318 rfl ?_
            refine ev_iload dX3_finds_320 rfl ?_
            refine ev_imulZ dX3_finds_322 ?_
            refine ev_iload dX3_finds_323 rfl ?_
            refine ev_iaddZ dX3_finds_325 ?_
            refine ev_to (b := ((81 * (last - (i + 1)) + p : Nat) : Int)) (by omega) ?_
            refine ev_aload_n dX3_finds_326 rfl ?_
            refine mx_getA hM dX3_finds_327 gf_X3_104_X3 rfl ?_
            refine ev_bipushZ dX3_finds_330 rfl ?_
            refine ev_iload dX3_finds_332 rfl ?_
            refine ev_imulZ dX3_finds_334 ?_
            refine ev_iload dX3_finds_335 rfl ?_
            refine ev_iaddZ dX3_finds_337 ?_
            refine ev_to (b := ((81 * (last - (i + 1)) + p : Nat) : Int)) (by omega) ?_
            refine mx_zald hM rfl dX3_finds_338 (by omega) ?_
            try simp only [uS_1, uA_1, uF_1, uS_2, uA_2a, uF_2a, Nat.reduceEqDiff, reduceIte, Int.reduceToNat, Int.toNat_natCast]
            rw [show A (81 * (last - (i + 1)) + p) = bI (ldW D L gl last i p q) by rw [hA _ p (by omega) hpp]; unfold ldF ldW; rw [ldS_here hi]]
            refine ev_if_neB (tgt := 387) dX3_finds_339 (by decide) (fun c => by rw [hv] at c; cases c) (fun _ => ?_)
            refine ev_aload_n dX3_finds_342 rfl ?_
            refine ev_iload_n dX3_finds_343 rfl ?_
            refine ev_iload_n dX3_finds_344 rfl ?_
            refine ev_iload dX3_finds_345 rfl ?_
            refine ev_to (b := ((last - (i + 1) : Nat) : Int)) (by omega) ?_
            refine ev_iload dX3_finds_347 rfl ?_
            refine ev_aload_n dX3_finds_349 rfl ?_
            refine ev_iload dX3_finds_350 rfl ?_
            refine ev_iload dX3_finds_352 rfl ?_
            refine mx_call dX3_finds_354 cv_X3_394_X3 ce_X3_stepped hM rfl rfl (k_stepped (D := D) (p := p) (q := q) hM hD hO (by omega) (by omega) (d := d - 1) (by omega)) (by omega) (Nat.le_of_ble_eq_true rfl) (fun h hM => ?_)
            rw [show nbI D.1.1 D.1.2 p q = ((y : Nat) : Int) by unfold nbI; rw [hnb]]
            refine mx_call dX3_finds_357 cv_X3_397_X3 ce_X3_canStep hM rfl rfl (k_canStep (D := D) (P := P) (fm := fm) (n := n) (L := L) (dn := dn) (k := last - (i + 1)) (p := p) (x := y) hM hD hO hs17 h99 hp hE hpn hfm hdn (by omega) (by omega) (by omega) hLd hL9 (d := d - 1) (by omega)) (by omega) (Nat.le_of_ble_eq_true rfl) (fun h hM => ?_)
            refine ev_if_eqB (tgt := 391) dX3_finds_360 (by decide) (fun c => by rw [hgo] at c; cases c) (fun _ => ?_)
            refine ev_aload_n dX3_finds_363 rfl ?_
            refine mx_getA hM dX3_finds_364 gf_X3_104_X3 rfl ?_
            refine ev_bipushZ dX3_finds_367 rfl ?_
            refine ev_iload dX3_finds_369 rfl ?_
            refine ev_iconstZ dX3_finds_371 ?_
            refine ev_iaddZ dX3_finds_372 ?_
            refine ev_imulZ dX3_finds_373 ?_
            refine ev_aload_n dX3_finds_374 rfl ?_
            refine ev_iload dX3_finds_375 rfl ?_
            refine ev_iload dX3_finds_377 rfl ?_
            refine mx_call dX3_finds_379 cv_X3_394_X3 ce_X3_stepped hM rfl rfl (k_stepped (D := D) (p := p) (q := q) hM hD hO (by omega) (by omega) (d := d - 1) (by omega)) (by omega) (Nat.le_of_ble_eq_true rfl) (fun h hM => ?_)
            rw [show nbI D.1.1 D.1.2 p q = ((y : Nat) : Int) by unfold nbI; rw [hnb]]
            refine ev_iaddZ dX3_finds_382 ?_
            refine ev_to (b := ((81 * (last - i) + y : Nat) : Int)) (by omega) ?_
            refine mx_zald hM rfl dX3_finds_383 (by omega) ?_
            try simp only [uS_1, uA_1, uF_1, uS_2, uA_2a, uF_2a, Nat.reduceEqDiff, reduceIte, Int.reduceToNat, Int.toNat_natCast]
            rw [show A (81 * (last - i) + y) = bI (ldP D.1.1 D.1.2 L gl last i y) by rw [hA _ y (by omega) hy]; unfold ldF; rw [ldS_done hi]]
            refine ev_if_eqB (tgt := 391) dX3_finds_384 (by decide) (fun _ => ?_) (fun c => by rw [hld] at c; cases c)
            refine ev_iconstZ dX3_finds_391 ?_
            refine mx_zast hM rfl dX3_finds_392 (by omega) (by omega) (fun h hM => ?_)
            rw [Int.toNat_natCast, uA_uF] at hM
            refine ev_iincZ dX3_finds_393 rfl (by decide) rfl ?_
            dsimp only [List.set]
            refine ev_goto (tgt := 308) dX3_finds_396 (by decide) ?_
            refine hN _ _ ⟨rfl, rfl, rfl, rfl, rfl, rfl, rfl, rfl, vz_eq (by omega), trivial⟩ ⟨_, hM, fun j x hj hx => ?_⟩
            rw [show (0 : Int) = bI (ldW D L gl last i p (q + 1)) by rw [hw]; rfl]
            exact ld_put hi (by omega) (by omega) (hA j x hj hx)
          | true =>
            rw [hld] at hw
            refine ev_iload dX3_finds_308 rfl ?_
            refine ev_iconstZ dX3_finds_310 ?_
            refine ev_icmp_geZ (tgt := 399) dX3_finds_311 (by decide) (by omega) (by omega) (fun c => absurd c (by omega)) (fun _ => ?_)
            refine ev_aload_n dX3_finds_314 rfl ?_
            refine mx_getA hM dX3_finds_315 gf_X3_104_X3 rfl ?_
            refine ev_bipushZ dX3_finds_318 rfl ?_
            refine ev_iload dX3_finds_320 rfl ?_
            refine ev_imulZ dX3_finds_322 ?_
            refine ev_iload dX3_finds_323 rfl ?_
            refine ev_iaddZ dX3_finds_325 ?_
            refine ev_to (b := ((81 * (last - (i + 1)) + p : Nat) : Int)) (by omega) ?_
            refine ev_aload_n dX3_finds_326 rfl ?_
            refine mx_getA hM dX3_finds_327 gf_X3_104_X3 rfl ?_
            refine ev_bipushZ dX3_finds_330 rfl ?_
            refine ev_iload dX3_finds_332 rfl ?_
            refine ev_imulZ dX3_finds_334 ?_
            refine ev_iload dX3_finds_335 rfl ?_
            refine ev_iaddZ dX3_finds_337 ?_
            refine ev_to (b := ((81 * (last - (i + 1)) + p : Nat) : Int)) (by omega) ?_
            refine mx_zald hM rfl dX3_finds_338 (by omega) ?_
            try simp only [uS_1, uA_1, uF_1, uS_2, uA_2a, uF_2a, Nat.reduceEqDiff, reduceIte, Int.reduceToNat, Int.toNat_natCast]
            rw [show A (81 * (last - (i + 1)) + p) = bI (ldW D L gl last i p q) by rw [hA _ p (by omega) hpp]; unfold ldF ldW; rw [ldS_here hi]]
            refine ev_if_neB (tgt := 387) dX3_finds_339 (by decide) (fun c => by rw [hv] at c; cases c) (fun _ => ?_)
            refine ev_aload_n dX3_finds_342 rfl ?_
            refine ev_iload_n dX3_finds_343 rfl ?_
            refine ev_iload_n dX3_finds_344 rfl ?_
            refine ev_iload dX3_finds_345 rfl ?_
            refine ev_to (b := ((last - (i + 1) : Nat) : Int)) (by omega) ?_
            refine ev_iload dX3_finds_347 rfl ?_
            refine ev_aload_n dX3_finds_349 rfl ?_
            refine ev_iload dX3_finds_350 rfl ?_
            refine ev_iload dX3_finds_352 rfl ?_
            refine mx_call dX3_finds_354 cv_X3_394_X3 ce_X3_stepped hM rfl rfl (k_stepped (D := D) (p := p) (q := q) hM hD hO (by omega) (by omega) (d := d - 1) (by omega)) (by omega) (Nat.le_of_ble_eq_true rfl) (fun h hM => ?_)
            rw [show nbI D.1.1 D.1.2 p q = ((y : Nat) : Int) by unfold nbI; rw [hnb]]
            refine mx_call dX3_finds_357 cv_X3_397_X3 ce_X3_canStep hM rfl rfl (k_canStep (D := D) (P := P) (fm := fm) (n := n) (L := L) (dn := dn) (k := last - (i + 1)) (p := p) (x := y) hM hD hO hs17 h99 hp hE hpn hfm hdn (by omega) (by omega) (by omega) hLd hL9 (d := d - 1) (by omega)) (by omega) (Nat.le_of_ble_eq_true rfl) (fun h hM => ?_)
            refine ev_if_eqB (tgt := 391) dX3_finds_360 (by decide) (fun c => by rw [hgo] at c; cases c) (fun _ => ?_)
            refine ev_aload_n dX3_finds_363 rfl ?_
            refine mx_getA hM dX3_finds_364 gf_X3_104_X3 rfl ?_
            refine ev_bipushZ dX3_finds_367 rfl ?_
            refine ev_iload dX3_finds_369 rfl ?_
            refine ev_iconstZ dX3_finds_371 ?_
            refine ev_iaddZ dX3_finds_372 ?_
            refine ev_imulZ dX3_finds_373 ?_
            refine ev_aload_n dX3_finds_374 rfl ?_
            refine ev_iload dX3_finds_375 rfl ?_
            refine ev_iload dX3_finds_377 rfl ?_
            refine mx_call dX3_finds_379 cv_X3_394_X3 ce_X3_stepped hM rfl rfl (k_stepped (D := D) (p := p) (q := q) hM hD hO (by omega) (by omega) (d := d - 1) (by omega)) (by omega) (Nat.le_of_ble_eq_true rfl) (fun h hM => ?_)
            rw [show nbI D.1.1 D.1.2 p q = ((y : Nat) : Int) by unfold nbI; rw [hnb]]
            refine ev_iaddZ dX3_finds_382 ?_
            refine ev_to (b := ((81 * (last - i) + y : Nat) : Int)) (by omega) ?_
            refine mx_zald hM rfl dX3_finds_383 (by omega) ?_
            try simp only [uS_1, uA_1, uF_1, uS_2, uA_2a, uF_2a, Nat.reduceEqDiff, reduceIte, Int.reduceToNat, Int.toNat_natCast]
            rw [show A (81 * (last - i) + y) = bI (ldP D.1.1 D.1.2 L gl last i y) by rw [hA _ y (by omega) hy]; unfold ldF; rw [ldS_done hi]]
            refine ev_if_eqB (tgt := 391) dX3_finds_384 (by decide) (fun c => by rw [hld] at c; cases c) (fun _ => ?_)
            refine ev_iconstZ dX3_finds_387 ?_
            refine ev_goto (tgt := 392) dX3_finds_388 (by decide) ?_
            refine mx_zast hM rfl dX3_finds_392 (by omega) (by omega) (fun h hM => ?_)
            rw [Int.toNat_natCast, uA_uF] at hM
            refine ev_iincZ dX3_finds_393 rfl (by decide) rfl ?_
            dsimp only [List.set]
            refine ev_goto (tgt := 308) dX3_finds_396 (by decide) ?_
            refine hN _ _ ⟨rfl, rfl, rfl, rfl, rfl, rfl, rfl, rfl, vz_eq (by omega), trivial⟩ ⟨_, hM, fun j x hj hx => ?_⟩
            rw [show (1 : Int) = bI (ldW D L gl last i p (q + 1)) by rw [hw]; rfl]
            exact ld_put hi (by omega) (by omega) (hA j x hj hx)
  · clear hM
    obtain ⟨A, hM, hA⟩ := hX
    refine ev_iload dX3_finds_308 rfl ?_
    refine ev_iconstZ dX3_finds_310 ?_
    refine ev_icmp_geZ (tgt := 399) dX3_finds_311 (by decide) (by omega) (by omega) (fun _ => ?_) (fun c => absurd (by omega) c)
    exact hE9 _ _ hM hA
end Z9

/-! the reference: plan, 10 (printed by gen) -/
section KA3
variable {g : GB} {M : MI} {d c k : Nat} {Q : RS → HM → Prop} {pc : Nat} {ls : List (Option Value)} {st : List Value} {h : HM} {a b : Int} {ad : Nat → Nat} {o : Nat} {h0 : HM} {s : MSt}
/-- what finds leaves -/
def fdQ (s : MSt) (D : Dn) (P : Pt) (L : PL) (dn gl : Nat) (v : Option Value) (s' : MSt) : Prop := match enP D.1.1 D.1.2 L (dnE D P dn) gl with
  | none => v = some (vz 0) ∧ fr s s' [] [47, 48, 49, 50, 51, 52]
  | some last => v = some (vz 1) ∧ fr s s' [] [47, 48, 49, 50, 51, 52] ∧ (∀ j : Nat, j ≤ 20 → s'.2 47 (21 * dn + j) = ((wkP D.1.1 D.1.2 L (dnE D P dn) gl last j : Nat) : Int)) ∧ (∀ i : Nat, i < 21 * dn ∨ 21 * dn + 21 ≤ i → s'.2 47 i = s.2 47 i) ∧ (∀ j : Nat, j < last → s'.2 49 (20 * dn + j) = ((csP D.1.1 D.1.2 L gl last j (wkP D.1.1 D.1.2 L (dnE D P dn) gl last j) : Nat) : Int)) ∧ (∀ i : Nat, i < 20 * dn ∨ 20 * dn + 20 ≤ i → s'.2 49 i = s.2 49 i) ∧ (∀ i : Nat, s'.2 48 i = if i = dn then (last : Int) else s.2 48 i) ∧ ∀ i : Nat, s'.2 50 i = if i = dn then 1 else s.2 50 i
set_option maxRecDepth 100000 in
set_option maxHeartbeats 4000000 in
theorem k_finds {D : Dn} {P : Pt} {fm n : Nat} {L : PL} (hD : dnAt (s.2 1) D) (hO : dnOk D) (hs17 : s.1 17 = ((P.1.1 : Nat) : Int)) (h99 : P.1.1 ≤ 99) (hp : plAt s D P) (hE : endOk D P) (hpn : pnAt s D P fm n L) (hfm : fm < 4) {dn : Nat} (hdn : dn < 8) (hLd : L dn = none) (hL9 : ∀ (e : Nat) (f : Nat → Nat), e < 8 → L e = some f → ∀ k, k ≤ 20 → f k < 100) {gl : Nat} (hM : MX g ad o h0 s h) (ht : tkB D dn = true) (hgl : gl < D.1.1 * D.1.2) (hgv : D.2.2.1 fm dn = (gl : Int)) (hd : 9 ≤ d) : Kc g mX3_finds d 0 0 [.ref o, vz (fm : Int), vz (dn : Int)] h (mP g ad o h0 (fun v s' => fdQ s D P L dn gl v s')) := by
  refine Kc.of (ls := [some (.ref o), some (vz (fm : Int)), some (vz (dn : Int)), none, none, none, none, none, none, none]) (by decide +kernel) (Nat.le_of_ble_eq_true rfl) rfl ?_
  refine ev_aload_n dX3_finds_0 rfl ?_
  refine ev_iload_n dX3_finds_1 rfl ?_
  refine ev_iload_n dX3_finds_2 rfl ?_
  refine mx_call dX3_finds_3 cv_X3_379_X3 ce_X3_formed hM rfl rfl (k_formed (D := D) (f := fm) (e := dn) hM hD hO hfm hdn (d := d - 1) (by omega)) (by omega) (Nat.le_of_ble_eq_true rfl) (fun h hM => ?_)
  rw [hgv]
  refine ev_istore_n dX3_finds_6 (by decide) rfl ?_
  dsimp only [List.set]
  refine ev_aload_n dX3_finds_7 rfl ?_
  refine mx_getA hM dX3_finds_8 gf_X3_7_X3 rfl ?_
  refine ev_iconstZ dX3_finds_11 ?_
  refine mx_iald hM rfl dX3_finds_12 (by omega) ?_
  try simp only [uS_1, uA_1, uF_1, uS_2, uA_2a, uF_2a, Nat.reduceEqDiff, reduceIte, Int.reduceToNat, Int.toNat_natCast]
  rw [hD.1]
  refine ev_aload_n dX3_finds_13 rfl ?_
  refine mx_getA hM dX3_finds_14 gf_X3_7_X3 rfl ?_
  refine ev_iconstZ dX3_finds_17 ?_
  refine mx_iald hM rfl dX3_finds_18 (by omega) ?_
  try simp only [uS_1, uA_1, uF_1, uS_2, uA_2a, uF_2a, Nat.reduceEqDiff, reduceIte, Int.reduceToNat, Int.toNat_natCast]
  rw [hD.2.1]
  refine ev_imulZ dX3_finds_19 ?_
  refine ev_istore dX3_finds_20 (by decide) rfl ?_
  dsimp only [List.set]
  refine Ev.forget (fd_reach (gl := gl) (L := L) hD hO hs17 h99 hp hE hpn hfm hdn hLd hL9 ht hM (by omega) (fun h A hM hA => ?_)) ⟨rfl, rfl, rfl, vz_eq (by omega), vz_eq (by rw [Int.natCast_mul]), trivial⟩
  refine fd_end hD hO hs17 h99 hp hE hpn hfm hdn hLd hL9 hgl hM hA (by omega) (fun h hM => ?_)
  cases hen : enP D.1.1 D.1.2 L (dnE D P dn) gl with
  | none =>
    show Ev _ _ _ _ _ _ _ [some (.ref o), some (vz (fm : Int)), some (vz (dn : Int)), some (vz (gl : Int)), some (vz ((D.1.1 * D.1.2 : Nat) : Int)), some (vz (-1)), none, none, none, none] _ _
    refine ev_iload dX3_finds_238 rfl ?_
    refine ev_iconstZ dX3_finds_240 ?_
    refine ev_icmp_neZ (tgt := 246) dX3_finds_241 (by decide) (by omega) (by omega) (fun c => absurd rfl c) (fun _ => ?_)
    refine ev_iconstZ dX3_finds_244 ?_
    refine ev_zreturn dX3_finds_245 rfl rfl ?_
    refine ⟨some (vz 0), uF s 51 A, rfl, ?_, hM⟩
    unfold fdQ
    rw [hen]
    exact ⟨rfl, fr.F (fr.refl _ _ _) rfl⟩
  | some last =>
    have hl20 : last ≤ 20 := by have := (find_some hen).1; omega
    show Ev _ _ _ _ _ _ _ [some (.ref o), some (vz (fm : Int)), some (vz (dn : Int)), some (vz (gl : Int)), some (vz ((D.1.1 * D.1.2 : Nat) : Int)), some (vz (last : Int)), none, none, none, none] _ _
    refine ev_iload dX3_finds_238 rfl ?_
    refine ev_iconstZ dX3_finds_240 ?_
    refine ev_icmp_neZ (tgt := 246) dX3_finds_241 (by decide) (by omega) (by omega) (fun _ => ?_) (fun c => absurd c (by omega))
    refine fd_come (s := uF s 51 A) hD hO hs17 h99 hp hE hpn hfm hdn hLd hL9 hl20 hgl hM (by omega) (fun h A2 hM hA2 => ?_)
    refine ev_aload_n dX3_finds_411 rfl ?_
    refine ev_iload_n dX3_finds_412 rfl ?_
    refine ev_iload_n dX3_finds_413 rfl ?_
    refine ev_iload dX3_finds_414 rfl ?_
    refine mx_callP dX3_finds_416 cv_X3_401_X3 ce_X3_walks hM rfl rfl (k_walks (s := uF (uF s 51 A) 52 A2) (D := D) (P := P) (fm := fm) (n := n) (L := L) (dn := dn) (gl := gl) (last := last) hD hO hs17 h99 hp hE hpn hfm hdn hLd hL9 hM ht hgl hen (fun j x hj hx => hA2 j x hj hx) (d := d - 1) (by omega)) (by omega) (Nat.le_of_ble_eq_true rfl) (fun v s3 h hP hM => ?_)
    obtain ⟨rfl, f3, p1, p2, p3, p4, p5, p6⟩ := hP
    refine ev_iconstZ dX3_finds_419 ?_
    refine ev_zreturn dX3_finds_420 rfl rfl ?_
    refine ⟨some (vz 1), s3, rfl, ?_, hM⟩
    unfold fdQ
    rw [hen]
    exact ⟨rfl, ((fr.F (fr.F (fr.refl _ _ _) rfl) rfl).trans (f3.more rfl rfl)), p1, p2, p3, p4, p5, p6⟩
end KA3

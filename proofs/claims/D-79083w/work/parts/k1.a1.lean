/-! the reference: plan, 8 (printed by gen) -/
section KA1
variable {g : GB} {M : MI} {d c k : Nat} {Q : RS → HM → Prop} {pc : Nat} {ls : List (Option Value)} {st : List Value} {h : HM} {a b : Int} {ad : Nat → Nat} {o : Nat} {h0 : HM} {s : MSt}
theorem trd_stO {q : Nat} (h : q < 5) : trd (q : Nat) = ((stO q : Nat) : Int) := by
  have : ∀ q : Fin 5, trd (q.val : Nat) = ((stO q.val : Nat) : Int) := by decide
  exact this ⟨q, h⟩
/-- the state while a path is walked -/
def wkS (s : MSt) (A B : Nat → Int) : MSt := uF (uF s 47 A) 49 B
def wkI (s : MSt) (D : Dn) (L : PL) (dn s0 gl last k : Nat) (A B : Nat → Int) : Prop := (∀ j : Nat, j < k → A (21 * dn + j) = ((wkP D.1.1 D.1.2 L s0 gl last j : Nat) : Int)) ∧ (∀ i : Nat, i < 21 * dn ∨ 21 * dn + 21 ≤ i → A i = s.2 47 i) ∧ (∀ j : Nat, j < k → j < last → B (20 * dn + j) = ((csP D.1.1 D.1.2 L gl last j (wkP D.1.1 D.1.2 L s0 gl last j) : Nat) : Int)) ∧ ∀ i : Nat, i < 20 * dn ∨ 20 * dn + 20 ≤ i → B i = s.2 49 i
theorem pnAt.wk {D : Dn} {P : Pt} {fm n dn s0 gl last k : Nat} {L : PL} {A B : Nat → Int} (hpn : pnAt s D P fm n L) (hLd : L dn = none) (hI : wkI s D L dn s0 gl last k A B) : pnAt (wkS s A B) D P fm n L := by
  intro e he
  have h1 := hpn e he
  show if tkB D e = true then (if D.2.2.1 fm e ≠ -1 then (if e < n then s.2 50 e = 1 ∧ ∃ f : Nat → Nat, L e = some f ∧ ∀ k : Nat, k ≤ 20 → A (21 * e + k) = ((f k : Nat) : Int) else s.2 50 e = 0 ∧ L e = none) else s.2 50 e = 0 ∧ L e = some (fun _ => dnE D P e)) else s.2 50 e = 0 ∧ L e = none
  split at h1
  · rename_i c1
    rw [if_pos c1]
    split at h1
    · rename_i c2
      rw [if_pos c2]
      split at h1
      · rename_i c3
        rw [if_pos c3]
        obtain ⟨a1, f, a2, a3⟩ := h1
        refine ⟨a1, f, a2, fun k hk => ?_⟩
        have hne : e ≠ dn := fun q => by rw [q, hLd] at a2; cases a2
        rw [hI.2.1 _ (by omega)]
        exact a3 k hk
      · rename_i c3
        rw [if_neg c3]; exact h1
    · rename_i c2
      rw [if_neg c2]; exact h1
  · rename_i c1
    rw [if_neg c1]; exact h1
set_option maxRecDepth 100000 in
set_option maxHeartbeats 4000000 in
theorem wk_srch {D : Dn} {P : Pt} {fm n : Nat} {L : PL} (hD : dnAt (s.2 1) D) (hO : dnOk D) (hs17 : s.1 17 = ((P.1.1 : Nat) : Int)) (h99 : P.1.1 ≤ 99) (hp : plAt s D P) (hE : endOk D P) (hpn : pnAt s D P fm n L) (hfm : fm < 4) {dn : Nat} (hdn : dn < 8) (hLd : L dn = none) (hL9 : ∀ (e : Nat) (f : Nat → Nat), e < 8 → L e = some f → ∀ k, k ≤ 20 → f k < 100) {s0 gl last : Nat} (hl20 : last ≤ 20) {k k9 : Nat} (hkl : k < last) (hC : ∀ j x : Nat, j < last + 1 → x < D.1.1 * D.1.2 → s.2 52 (81 * j + x) = bI (ldP D.1.1 D.1.2 L gl last (last - j) x)) {A B : Nat → Int} (hpw : pnAt (wkS s A B) D P fm n L) (hwl : wkP D.1.1 D.1.2 L s0 gl last k < D.1.1 * D.1.2) (w1 : cqP D.1.1 D.1.2 L gl last k (wkP D.1.1 D.1.2 L s0 gl last k) < 5) (w2 : okP_ D.1.1 D.1.2 L gl last k (wkP D.1.1 D.1.2 L s0 gl last k) (csP D.1.1 D.1.2 L gl last k (wkP D.1.1 D.1.2 L s0 gl last k)) = true) (w3 : ∀ q, q < cqP D.1.1 D.1.2 L gl last k (wkP D.1.1 D.1.2 L s0 gl last k) → okP_ D.1.1 D.1.2 L gl last k (wkP D.1.1 D.1.2 L s0 gl last k) (stO q) = false) (w4 : nbP D.1.1 D.1.2 (wkP D.1.1 D.1.2 L s0 gl last k) (csP D.1.1 D.1.2 L gl last k (wkP D.1.1 D.1.2 L s0 gl last k)) = some (wkP D.1.1 D.1.2 L s0 gl last (k + 1))) (hM : MX g ad o h0 (wkS s A B) h) (hd : 6 ≤ d) (hE9 : ∀ h' : HM, MX g ad o h0 (uA (wkS s A B) 49 (20 * dn + k) ((csP D.1.1 D.1.2 L gl last k (wkP D.1.1 D.1.2 L s0 gl last k) : Nat) : Int)) h' → Ev g mX3_walks d c k9 Q 127 [some (.ref o), some (vz (fm : Int)), some (vz (dn : Int)), some (vz (last : Int)), some (vz ((wkP D.1.1 D.1.2 L s0 gl last (k + 1) : Nat) : Int)), some (vz ((k : Nat) : Int)), none] [] h') : Ev g mX3_walks d c k9 Q 37 [some (.ref o), some (vz (fm : Int)), some (vz (dn : Int)), some (vz (last : Int)), some (vz ((wkP D.1.1 D.1.2 L s0 gl last k : Nat) : Int)), some (vz ((k : Nat) : Int)), none] [] h := by
  have hE9 := fun (h1 : HM) (q1 : MX g ad o h0 (uA (wkS s A B) 49 (20 * dn + k) ((csP D.1.1 D.1.2 L gl last k (wkP D.1.1 D.1.2 L s0 gl last k) : Nat) : Int)) h1) => Ev.forget (hE9 h1 q1) (show wkL [some (.ref o), some (vz (fm : Int)), some (vz (dn : Int)), some (vz (last : Int)), some (vz ((wkP D.1.1 D.1.2 L s0 gl last (k + 1) : Nat) : Int)), some (vz ((k : Nat) : Int)), none] [some (.ref o), some (vz (fm : Int)), some (vz (dn : Int)), some (vz (last : Int)), some (vz ((wkP D.1.1 D.1.2 L s0 gl last (k + 1) : Nat) : Int)), some (vz ((k : Nat) : Int)), some (vz ((cqP D.1.1 D.1.2 L gl last k (wkP D.1.1 D.1.2 L s0 gl last k) : Nat) : Int))] from ⟨rfl, rfl, rfl, rfl, rfl, rfl, trivial⟩)
  have hCR : D.1.1 * D.1.2 ≤ 81 := Nat.mul_le_mul hO.2.1 hO.2.2.2.1
  refine ev_iconstZ dX3_walks_37 ?_
  refine ev_istore dX3_walks_38 (by decide) rfl ?_
  dsimp only [List.set]
  refine ev_for (cqP D.1.1 D.1.2 L gl last k (wkP D.1.1 D.1.2 L s0 gl last k)) (fun q h => MX g ad o h0 (wkS s A B) h) (fun q => [some (.ref o), some (vz (fm : Int)), some (vz (dn : Int)), some (vz (last : Int)), some (vz ((wkP D.1.1 D.1.2 L s0 gl last k : Nat) : Int)), some (vz ((k : Nat) : Int)), some (vz ((q : Nat) : Int))]) 0 (Nat.zero_le _) hM ⟨rfl, rfl, rfl, rfl, rfl, rfl, vz_eq (by omega), trivial⟩ (fun q h hi1 hi2 hX hN => ?_) (fun h hX => ?_)
  · clear hM
    have hM : MX g ad o h0 (wkS s A B) h := hX
    have hq5 : q < 5 := by omega
    have hso := stO_lt hq5
    have hno := w3 q hi2
    unfold okP_ at hno
    cases hnb : nbP D.1.1 D.1.2 (wkP D.1.1 D.1.2 L s0 gl last k) (stO q) with
    | none =>
      refine ev_aload_n dX3_walks_40 rfl ?_
      refine ev_iload_n dX3_walks_41 rfl ?_
      refine ev_iload_n dX3_walks_42 rfl ?_
      refine ev_iload dX3_walks_43 rfl ?_
      refine ev_iload dX3_walks_45 rfl ?_
      refine ev_aload_n dX3_walks_47 rfl ?_
      refine ev_iload dX3_walks_48 rfl ?_
      refine ev_iload dX3_walks_50 rfl ?_
      refine ev_callSE dX3_walks_52 cs_X3_404 ce_X3_tried rfl rfl (k_tried (d := d - 1) (by omega) (by omega)) (by omega) (Nat.le_of_ble_eq_true rfl) ?_
      rw [trd_stO hq5]
      refine mx_call dX3_walks_55 cv_X3_394_X3 ce_X3_stepped hM rfl rfl (k_stepped (D := D) (p := wkP D.1.1 D.1.2 L s0 gl last k) (q := stO q) hM hD hO (by omega) (by omega) (d := d - 1) (by omega)) (by omega) (Nat.le_of_ble_eq_true rfl) (fun h hM => ?_)
      rw [show nbI D.1.1 D.1.2 (wkP D.1.1 D.1.2 L s0 gl last k) (stO q) = -1 by unfold nbI; rw [hnb]]
      refine mx_call dX3_walks_58 cv_X3_397_X3 ce_X3_canStep hM rfl rfl (k_canStepN (D := D) (P := P) (fm := fm) (n := n) (L := L) (dn := dn) (k := k) (p := wkP D.1.1 D.1.2 L s0 gl last k) hM hD hO hs17 h99 hp hE hpw hfm hdn (d := d - 1) (by omega)) (by omega) (Nat.le_of_ble_eq_true rfl) (fun h hM => ?_)
      refine ev_if_eqB (tgt := 91) dX3_walks_61 (by decide) (fun _ => ?_) (fun c => by first | cases c | (rw [hnb] at c; cases c))
      refine ev_iincZ dX3_walks_91 rfl (by decide) rfl ?_
      dsimp only [List.set]
      refine ev_goto (tgt := 40) dX3_walks_94 (by decide) ?_
      exact hN _ _ ⟨rfl, rfl, rfl, rfl, rfl, rfl, vz_eq (by omega), trivial⟩ hM
    | some y =>
      rw [hnb] at hno
      dsimp only at hno
      have hy := nb_lt hO hnb
      cases hgo : goP L k (wkP D.1.1 D.1.2 L s0 gl last k) y with
      | false =>
        refine ev_aload_n dX3_walks_40 rfl ?_
        refine ev_iload_n dX3_walks_41 rfl ?_
        refine ev_iload_n dX3_walks_42 rfl ?_
        refine ev_iload dX3_walks_43 rfl ?_
        refine ev_iload dX3_walks_45 rfl ?_
        refine ev_aload_n dX3_walks_47 rfl ?_
        refine ev_iload dX3_walks_48 rfl ?_
        refine ev_iload dX3_walks_50 rfl ?_
        refine ev_callSE dX3_walks_52 cs_X3_404 ce_X3_tried rfl rfl (k_tried (d := d - 1) (by omega) (by omega)) (by omega) (Nat.le_of_ble_eq_true rfl) ?_
        rw [trd_stO hq5]
        refine mx_call dX3_walks_55 cv_X3_394_X3 ce_X3_stepped hM rfl rfl (k_stepped (D := D) (p := wkP D.1.1 D.1.2 L s0 gl last k) (q := stO q) hM hD hO (by omega) (by omega) (d := d - 1) (by omega)) (by omega) (Nat.le_of_ble_eq_true rfl) (fun h hM => ?_)
        rw [show nbI D.1.1 D.1.2 (wkP D.1.1 D.1.2 L s0 gl last k) (stO q) = ((y : Nat) : Int) by unfold nbI; rw [hnb]]
        refine mx_call dX3_walks_58 cv_X3_397_X3 ce_X3_canStep hM rfl rfl (k_canStep (D := D) (P := P) (fm := fm) (n := n) (L := L) (dn := dn) (k := k) (p := wkP D.1.1 D.1.2 L s0 gl last k) (x := y) hM hD hO hs17 h99 hp hE hpw hfm hdn (by omega) (by omega) (by omega) hLd hL9 (d := d - 1) (by omega)) (by omega) (Nat.le_of_ble_eq_true rfl) (fun h hM => ?_)
        refine ev_if_eqB (tgt := 91) dX3_walks_61 (by decide) (fun _ => ?_) (fun c => by first | cases c | (rw [hgo] at c; cases c))
        refine ev_iincZ dX3_walks_91 rfl (by decide) rfl ?_
        dsimp only [List.set]
        refine ev_goto (tgt := 40) dX3_walks_94 (by decide) ?_
        exact hN _ _ ⟨rfl, rfl, rfl, rfl, rfl, rfl, vz_eq (by omega), trivial⟩ hM
      | true =>
        rw [hgo, Bool.and_true] at hno
        refine ev_aload_n dX3_walks_40 rfl ?_
        refine ev_iload_n dX3_walks_41 rfl ?_
        refine ev_iload_n dX3_walks_42 rfl ?_
        refine ev_iload dX3_walks_43 rfl ?_
        refine ev_iload dX3_walks_45 rfl ?_
        refine ev_aload_n dX3_walks_47 rfl ?_
        refine ev_iload dX3_walks_48 rfl ?_
        refine ev_iload dX3_walks_50 rfl ?_
        refine ev_callSE dX3_walks_52 cs_X3_404 ce_X3_tried rfl rfl (k_tried (d := d - 1) (by omega) (by omega)) (by omega) (Nat.le_of_ble_eq_true rfl) ?_
        rw [trd_stO hq5]
        refine mx_call dX3_walks_55 cv_X3_394_X3 ce_X3_stepped hM rfl rfl (k_stepped (D := D) (p := wkP D.1.1 D.1.2 L s0 gl last k) (q := stO q) hM hD hO (by omega) (by omega) (d := d - 1) (by omega)) (by omega) (Nat.le_of_ble_eq_true rfl) (fun h hM => ?_)
        rw [show nbI D.1.1 D.1.2 (wkP D.1.1 D.1.2 L s0 gl last k) (stO q) = ((y : Nat) : Int) by unfold nbI; rw [hnb]]
        refine mx_call dX3_walks_58 cv_X3_397_X3 ce_X3_canStep hM rfl rfl (k_canStep (D := D) (P := P) (fm := fm) (n := n) (L := L) (dn := dn) (k := k) (p := wkP D.1.1 D.1.2 L s0 gl last k) (x := y) hM hD hO hs17 h99 hp hE hpw hfm hdn (by omega) (by omega) (by omega) hLd hL9 (d := d - 1) (by omega)) (by omega) (Nat.le_of_ble_eq_true rfl) (fun h hM => ?_)
        refine ev_if_eqB (tgt := 91) dX3_walks_61 (by decide) (fun c => by rw [hgo] at c; cases c) (fun _ => ?_)
        refine ev_aload_n dX3_walks_64 rfl ?_
        refine mx_getA hM dX3_walks_65 gf_X3_104_X3 rfl ?_
        refine ev_bipushZ dX3_walks_68 rfl ?_
        refine ev_iload dX3_walks_70 rfl ?_
        refine ev_iconstZ dX3_walks_72 ?_
        refine ev_iaddZ dX3_walks_73 ?_
        refine ev_imulZ dX3_walks_74 ?_
        refine ev_aload_n dX3_walks_75 rfl ?_
        refine ev_iload dX3_walks_76 rfl ?_
        refine ev_iload dX3_walks_78 rfl ?_
        refine ev_callSE dX3_walks_80 cs_X3_404 ce_X3_tried rfl rfl (k_tried (d := d - 1) (by omega) (by omega)) (by omega) (Nat.le_of_ble_eq_true rfl) ?_
        rw [trd_stO hq5]
        refine mx_call dX3_walks_83 cv_X3_394_X3 ce_X3_stepped hM rfl rfl (k_stepped (D := D) (p := wkP D.1.1 D.1.2 L s0 gl last k) (q := stO q) hM hD hO (by omega) (by omega) (d := d - 1) (by omega)) (by omega) (Nat.le_of_ble_eq_true rfl) (fun h hM => ?_)
        rw [show nbI D.1.1 D.1.2 (wkP D.1.1 D.1.2 L s0 gl last k) (stO q) = ((y : Nat) : Int) by unfold nbI; rw [hnb]]
        refine ev_iaddZ dX3_walks_86 ?_
        refine ev_to (b := ((81 * (k + 1) + y : Nat) : Int)) (by omega) ?_
        refine mx_zald hM rfl dX3_walks_87 (by omega) ?_
        try simp only [uS_1, uA_1, uF_1, uS_2, uA_2a, uF_2a, Nat.reduceEqDiff, reduceIte, Int.reduceToNat, Int.toNat_natCast]
        rw [show (wkS s A B).2 52 (81 * (k + 1) + y) = s.2 52 (81 * (k + 1) + y) from rfl, hC (k + 1) y (by omega) hy]
        refine ev_if_neB (tgt := 97) dX3_walks_88 (by decide) (fun c => by rw [hno] at c; cases c) (fun _ => ?_)
        refine ev_iincZ dX3_walks_91 rfl (by decide) rfl ?_
        dsimp only [List.set]
        refine ev_goto (tgt := 40) dX3_walks_94 (by decide) ?_
        exact hN _ _ ⟨rfl, rfl, rfl, rfl, rfl, rfl, vz_eq (by omega), trivial⟩ hM
  · clear hM
    have hM : MX g ad o h0 (wkS s A B) h := hX
    obtain ⟨q, hqe⟩ : ∃ q, q = cqP D.1.1 D.1.2 L gl last k (wkP D.1.1 D.1.2 L s0 gl last k) := ⟨_, rfl⟩
    rw [← hqe]
    have hq5 : q < 5 := by omega
    have hso := stO_lt hq5
    have hcs : csP D.1.1 D.1.2 L gl last k (wkP D.1.1 D.1.2 L s0 gl last k) = stO q := by unfold csP; rw [← hqe]
    rw [hcs] at w2 w4 hE9
    rw [← hqe] at hE9
    obtain ⟨y, hye⟩ : ∃ y, y = wkP D.1.1 D.1.2 L s0 gl last (k + 1) := ⟨_, rfl⟩
    rw [← hye] at w4 hE9
    have hnb : nbP D.1.1 D.1.2 (wkP D.1.1 D.1.2 L s0 gl last k) (stO q) = some y := w4
    have hy := nb_lt hO hnb
    unfold okP_ at w2
    rw [hnb] at w2
    dsimp only at w2
    obtain ⟨hld, hgo⟩ := Bool.and_eq_true_iff.mp w2
    refine ev_aload_n dX3_walks_40 rfl ?_
    refine ev_iload_n dX3_walks_41 rfl ?_
    refine ev_iload_n dX3_walks_42 rfl ?_
    refine ev_iload dX3_walks_43 rfl ?_
    refine ev_iload dX3_walks_45 rfl ?_
    refine ev_aload_n dX3_walks_47 rfl ?_
    refine ev_iload dX3_walks_48 rfl ?_
    refine ev_iload dX3_walks_50 rfl ?_
    refine ev_callSE dX3_walks_52 cs_X3_404 ce_X3_tried rfl rfl (k_tried (d := d - 1) (by omega) (by omega)) (by omega) (Nat.le_of_ble_eq_true rfl) ?_
    rw [trd_stO hq5]
    refine mx_call dX3_walks_55 cv_X3_394_X3 ce_X3_stepped hM rfl rfl (k_stepped (D := D) (p := wkP D.1.1 D.1.2 L s0 gl last k) (q := stO q) hM hD hO (by omega) (by omega) (d := d - 1) (by omega)) (by omega) (Nat.le_of_ble_eq_true rfl) (fun h hM => ?_)
    rw [show nbI D.1.1 D.1.2 (wkP D.1.1 D.1.2 L s0 gl last k) (stO q) = ((y : Nat) : Int) by unfold nbI; rw [hnb]]
    refine mx_call dX3_walks_58 cv_X3_397_X3 ce_X3_canStep hM rfl rfl (k_canStep (D := D) (P := P) (fm := fm) (n := n) (L := L) (dn := dn) (k := k) (p := wkP D.1.1 D.1.2 L s0 gl last k) (x := y) hM hD hO hs17 h99 hp hE hpw hfm hdn (by omega) (by omega) (by omega) hLd hL9 (d := d - 1) (by omega)) (by omega) (Nat.le_of_ble_eq_true rfl) (fun h hM => ?_)
    refine ev_if_eqB (tgt := 91) dX3_walks_61 (by decide) (fun c => by rw [hgo] at c; cases c) (fun _ => ?_)
    refine ev_aload_n dX3_walks_64 rfl ?_
    refine mx_getA hM dX3_walks_65 gf_X3_104_X3 rfl ?_
    refine ev_bipushZ dX3_walks_68 rfl ?_
    refine ev_iload dX3_walks_70 rfl ?_
    refine ev_iconstZ dX3_walks_72 ?_
    refine ev_iaddZ dX3_walks_73 ?_
    refine ev_imulZ dX3_walks_74 ?_
    refine ev_aload_n dX3_walks_75 rfl ?_
    refine ev_iload dX3_walks_76 rfl ?_
    refine ev_iload dX3_walks_78 rfl ?_
    refine ev_callSE dX3_walks_80 cs_X3_404 ce_X3_tried rfl rfl (k_tried (d := d - 1) (by omega) (by omega)) (by omega) (Nat.le_of_ble_eq_true rfl) ?_
    rw [trd_stO hq5]
    refine mx_call dX3_walks_83 cv_X3_394_X3 ce_X3_stepped hM rfl rfl (k_stepped (D := D) (p := wkP D.1.1 D.1.2 L s0 gl last k) (q := stO q) hM hD hO (by omega) (by omega) (d := d - 1) (by omega)) (by omega) (Nat.le_of_ble_eq_true rfl) (fun h hM => ?_)
    rw [show nbI D.1.1 D.1.2 (wkP D.1.1 D.1.2 L s0 gl last k) (stO q) = ((y : Nat) : Int) by unfold nbI; rw [hnb]]
    refine ev_iaddZ dX3_walks_86 ?_
    refine ev_to (b := ((81 * (k + 1) + y : Nat) : Int)) (by omega) ?_
    refine mx_zald hM rfl dX3_walks_87 (by omega) ?_
    try simp only [uS_1, uA_1, uF_1, uS_2, uA_2a, uF_2a, Nat.reduceEqDiff, reduceIte, Int.reduceToNat, Int.toNat_natCast]
    rw [show (wkS s A B).2 52 (81 * (k + 1) + y) = s.2 52 (81 * (k + 1) + y) from rfl, hC (k + 1) y (by omega) hy]
    refine ev_if_neB (tgt := 97) dX3_walks_88 (by decide) (fun _ => ?_) (fun c => by rw [hld] at c; cases c)
    refine ev_aload_n dX3_walks_97 rfl ?_
    refine mx_getA hM dX3_walks_98 gf_X3_95_X3 rfl ?_
    refine ev_bipushZ dX3_walks_101 rfl ?_
    refine ev_iload_n dX3_walks_103 rfl ?_
    refine ev_imulZ dX3_walks_104 ?_
    refine ev_iload dX3_walks_105 rfl ?_
    refine ev_iaddZ dX3_walks_107 ?_
    refine ev_to (b := ((20 * dn + k : Nat) : Int)) (by omega) ?_
    refine ev_iload dX3_walks_108 rfl ?_
    refine ev_callSE dX3_walks_110 cs_X3_404 ce_X3_tried rfl rfl (k_tried (d := d - 1) (by omega) (by omega)) (by omega) (Nat.le_of_ble_eq_true rfl) ?_
    rw [trd_stO hq5]
    refine mx_iast hM rfl dX3_walks_113 (by omega) (fun h hM => ?_)
    rw [Int.toNat_natCast] at hM
    refine ev_aload_n dX3_walks_114 rfl ?_
    refine ev_iload dX3_walks_115 rfl ?_
    refine ev_iload dX3_walks_117 rfl ?_
    refine ev_callSE dX3_walks_119 cs_X3_404 ce_X3_tried rfl rfl (k_tried (d := d - 1) (by omega) (by omega)) (by omega) (Nat.le_of_ble_eq_true rfl) ?_
    rw [trd_stO hq5]
    refine mx_call dX3_walks_122 cv_X3_394_X3 ce_X3_stepped hM rfl rfl (k_stepped (D := D) (p := wkP D.1.1 D.1.2 L s0 gl last k) (q := stO q) hM hD hO (by omega) (by omega) (d := d - 1) (by omega)) (by omega) (Nat.le_of_ble_eq_true rfl) (fun h hM => ?_)
    rw [show nbI D.1.1 D.1.2 (wkP D.1.1 D.1.2 L s0 gl last k) (stO q) = ((y : Nat) : Int) by unfold nbI; rw [hnb]]
    refine ev_istore dX3_walks_125 (by decide) rfl ?_
    dsimp only [List.set]
    exact hE9 _ hM
end KA1

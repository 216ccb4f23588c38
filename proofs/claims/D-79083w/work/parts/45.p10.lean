/-! the reference: it writes (printed by gen) -/
section P10
variable {g : GB} {M : MI} {d c k : Nat} {Q : RS → HM → Prop} {pc : Nat} {ls : List (Option Value)} {st : List Value} {h : HM} {a b : Int} {ad : Nat → Nat} {o : Nat} {h0 : HM} {s : MSt}
/-- what was written -/
def ouAt (s : MSt) (u : List Nat) : Prop := s.1 13 = u.length ∧ ∀ (i x : Nat), u[i]? = some x → s.2 12 i = x ∧ x < 256
theorem ouAt.add {s : MSt} {u : List Nat} (h : ouAt s u) {c : Nat} (hc : c < 256) : ouAt (uS (uA s 12 u.length (c : Int)) 13 ((u.length : Int) + 1)) (u ++ [c]) := by
  refine ⟨by simp only [uS_1, reduceIte, List.length_append, List.length_singleton]; omega, fun i x hx => ?_⟩
  have hl := lt_of_getE hx
  rw [List.length_append, List.length_singleton] at hl
  simp only [uS_2, uA_2a, reduceIte]
  by_cases e : i = u.length
  · subst e
    rw [List.getElem?_append_right (Nat.le_refl _), Nat.sub_self] at hx
    cases hx
    rw [if_pos rfl]
    exact ⟨rfl, hc⟩
  · rw [List.getElem?_append_left (by omega)] at hx
    rw [if_neg e]
    exact h.2 i x hx
theorem ouAt.fr {s s' : MSt} {u : List Nat} {K J : List Nat} (h : ouAt s u) (hf : fr s s' K J) (hK : K.contains 13 = false) (hJ : J.contains 12 = false) : ouAt s' u := by
  unfold ouAt
  rw [hf.1 13 (fun q => by simp at hK; exact hK q), hf.2 12 (fun q => by simp at hJ; exact hJ q)]
  exact h
set_option maxRecDepth 100000 in
set_option maxHeartbeats 4000000 in
theorem k_writes {u : List Nat} {c1 : Nat} (hM : MX g ad o h0 s h) (hu : ouAt s u) (hl : u.length < 12000) (hc1 : c1 < 256) (hd : 1 ≤ d) : Kc g mX3_writes d 0 0 [.ref o, vz (c1 : Int)] h (mP g ad o h0 (fun v s' => v = none ∧ fr s s' [13] [12] ∧ ouAt s' (u ++ [c1]))) := by
  refine Kc.of (ls := [some (.ref o), some (vz (c1 : Int))]) (by decide +kernel) (Nat.le_of_ble_eq_true rfl) rfl ?_
  refine ev_aload_n dX3_writes_0 rfl ?_
  refine mx_getA hM dX3_writes_1 gf_X3_33_X3 rfl ?_
  refine ev_aload_n dX3_writes_4 rfl ?_
  refine mx_getI hM dX3_writes_5 gf_X3_288_X3 rfl ?_
  rw [hu.1]
  refine ev_iload_n dX3_writes_8 rfl ?_
  refine mx_iast hM rfl dX3_writes_9 (by omega) (fun h hM => ?_)
  refine ev_aload_n dX3_writes_10 rfl ?_
  refine ev_dup dX3_writes_11 rfl ?_
  refine mx_getI hM dX3_writes_12 gf_X3_288_X3 rfl ?_
  try simp only [uS_1, uA_1, uF_1, uS_2, uA_2a, uF_2a, Nat.reduceEqDiff, reduceIte, Int.reduceToNat, Int.toNat_natCast]
  rw [hu.1]
  refine ev_iconstZ dX3_writes_15 ?_
  refine ev_iaddZ dX3_writes_16 ?_
  refine mx_putI hM dX3_writes_17 gf_X3_288_X3 rfl (fun h hM => ?_)
  refine ev_return dX3_writes_20 rfl ?_
  exact ⟨none, _, rfl, ⟨rfl, fr.S (fr.A (fr.refl _ _ _) rfl) rfl, by rw [Int.toNat_natCast] at *; exact hu.add hc1⟩, hM⟩
theorem ins_f : ∀ k : Fin 8, ∀ p : Fin 10, (p.val ≠ 8) → True := by intro _ _ _; trivial
def paI (p : Nat) : Int := if p = 9 then -1 else p
set_option maxRecDepth 100000 in
set_option maxHeartbeats 4000000 in
theorem k_isInside {k1 p1 : Nat} (hk1 : k1 ≤ 7) (hp1 : p1 ≤ 7 ∨ p1 = 9) (hd : 1 ≤ d) : Kc g mX3_isInside d 0 0 [vz (k1 : Int), vz (paI p1)] h (sR (some (vz (bI (insB k1 p1)))) h) := by
  refine Kc.of (ls := [some (vz (k1 : Int)), some (vz (paI p1))]) (by decide +kernel) (Nat.le_of_ble_eq_true rfl) rfl ?_
  have hpi : inR (paI p1) := by unfold paI; split <;> omega
  have e1 : paI p1 = -1 ↔ p1 = 9 := by unfold paI; split <;> omega
  have e2 : ∀ n : Nat, n ≤ 7 → (paI p1 = n ↔ p1 = n) := by intro n hn; unfold paI; split <;> omega
  have e4 := e2 4 (by omega)
  have e5 := e2 5 (by omega)
  have e3 := e2 3 (by omega)
  have e7 := e2 7 (by omega)
  clear e2
  refine ev_iload_n dX3_isInside_0 rfl ?_
  refine ev_iconstZ dX3_isInside_1 ?_
  refine ev_icmp_eqZ (tgt := 15) dX3_isInside_2 (by decide) (by omega) (by omega) (fun c2 => ?_) (fun c2 => ?_)
  · refine ev_iconstZ dX3_isInside_15 ?_
    refine ev_zreturn dX3_isInside_16 rfl (by decide) ?_
    refine ⟨?_, rfl⟩
    unfold insB
    by_cases x9 : p1 = 9 ∨ p1 = 4 ∨ p1 = 5
    · rw [if_pos x9]; first | rfl | (exfalso; omega)
    · rw [if_neg x9]
      by_cases y7 : k1 = 7
      · subst y7; first | (simp [bI]; done) | (exfalso; omega)
      · by_cases y6 : k1 = 6
        · subst y6
          by_cases z7 : p1 = 7
          · subst z7; first | (simp [bI]; done) | (exfalso; omega)
          · first | (simp [bI, z7]; done) | (exfalso; omega)
        · by_cases y3 : k1 = 3
          · subst y3
            by_cases z3 : p1 = 3
            · subst z3; first | (simp [bI]; done) | (exfalso; omega)
            · first | (simp [bI, z3]; done) | (exfalso; omega)
          · first | (simp [bI, y3, y6, y7]; done) | (exfalso; omega)
  · refine ev_iload_n dX3_isInside_5 rfl ?_
    refine ev_iconstZ dX3_isInside_6 ?_
    refine ev_icmp_eqZ (tgt := 15) dX3_isInside_7 (by decide) (by omega) (by omega) (fun c7 => ?_) (fun c7 => ?_)
    · refine ev_iconstZ dX3_isInside_15 ?_
      refine ev_zreturn dX3_isInside_16 rfl (by decide) ?_
      refine ⟨?_, rfl⟩
      unfold insB
      by_cases x9 : p1 = 9 ∨ p1 = 4 ∨ p1 = 5
      · rw [if_pos x9]; first | rfl | (exfalso; omega)
      · rw [if_neg x9]
        by_cases y7 : k1 = 7
        · subst y7; first | (simp [bI]; done) | (exfalso; omega)
        · by_cases y6 : k1 = 6
          · subst y6
            by_cases z7 : p1 = 7
            · subst z7; first | (simp [bI]; done) | (exfalso; omega)
            · first | (simp [bI, z7]; done) | (exfalso; omega)
          · by_cases y3 : k1 = 3
            · subst y3
              by_cases z3 : p1 = 3
              · subst z3; first | (simp [bI]; done) | (exfalso; omega)
              · first | (simp [bI, z3]; done) | (exfalso; omega)
            · first | (simp [bI, y3, y6, y7]; done) | (exfalso; omega)
    · refine ev_iload_n dX3_isInside_10 rfl ?_
      refine ev_iconstZ dX3_isInside_11 ?_
      refine ev_icmp_neZ (tgt := 17) dX3_isInside_12 (by decide) (by omega) (by omega) (fun c12 => ?_) (fun c12 => ?_)
      · refine ev_iload_n dX3_isInside_17 rfl ?_
        refine ev_bipushZ dX3_isInside_18 rfl ?_
        refine ev_icmp_eqZ (tgt := 45) dX3_isInside_20 (by decide) (by omega) (by omega) (fun c20 => ?_) (fun c20 => ?_)
        · refine ev_iconstZ dX3_isInside_45 ?_
          refine ev_goto (tgt := 50) dX3_isInside_46 (by decide) ?_
          refine ev_zreturn dX3_isInside_50 rfl (by decide) ?_
          refine ⟨?_, rfl⟩
          unfold insB
          by_cases x9 : p1 = 9 ∨ p1 = 4 ∨ p1 = 5
          · rw [if_pos x9]; first | rfl | (exfalso; omega)
          · rw [if_neg x9]
            by_cases y7 : k1 = 7
            · subst y7; first | (simp [bI]; done) | (exfalso; omega)
            · by_cases y6 : k1 = 6
              · subst y6
                by_cases z7 : p1 = 7
                · subst z7; first | (simp [bI]; done) | (exfalso; omega)
                · first | (simp [bI, z7]; done) | (exfalso; omega)
              · by_cases y3 : k1 = 3
                · subst y3
                  by_cases z3 : p1 = 3
                  · subst z3; first | (simp [bI]; done) | (exfalso; omega)
                  · first | (simp [bI, z3]; done) | (exfalso; omega)
                · first | (simp [bI, y3, y6, y7]; done) | (exfalso; omega)
        · refine ev_iload_n dX3_isInside_23 rfl ?_
          refine ev_bipushZ dX3_isInside_24 rfl ?_
          refine ev_icmp_neZ (tgt := 35) dX3_isInside_26 (by decide) (by omega) (by omega) (fun c26 => ?_) (fun c26 => ?_)
          · refine ev_iload_n dX3_isInside_35 rfl ?_
            refine ev_iconstZ dX3_isInside_36 ?_
            refine ev_icmp_neZ (tgt := 49) dX3_isInside_37 (by decide) (by omega) (by omega) (fun c37 => ?_) (fun c37 => ?_)
            · refine ev_iconstZ dX3_isInside_49 ?_
              refine ev_zreturn dX3_isInside_50 rfl (by decide) ?_
              refine ⟨?_, rfl⟩
              unfold insB
              by_cases x9 : p1 = 9 ∨ p1 = 4 ∨ p1 = 5
              · rw [if_pos x9]; first | rfl | (exfalso; omega)
              · rw [if_neg x9]
                by_cases y7 : k1 = 7
                · subst y7; first | (simp [bI]; done) | (exfalso; omega)
                · by_cases y6 : k1 = 6
                  · subst y6
                    by_cases z7 : p1 = 7
                    · subst z7; first | (simp [bI]; done) | (exfalso; omega)
                    · first | (simp [bI, z7]; done) | (exfalso; omega)
                  · by_cases y3 : k1 = 3
                    · subst y3
                      by_cases z3 : p1 = 3
                      · subst z3; first | (simp [bI]; done) | (exfalso; omega)
                      · first | (simp [bI, z3]; done) | (exfalso; omega)
                    · first | (simp [bI, y3, y6, y7]; done) | (exfalso; omega)
            · refine ev_iload_n dX3_isInside_40 rfl ?_
              refine ev_iconstZ dX3_isInside_41 ?_
              refine ev_icmp_neZ (tgt := 49) dX3_isInside_42 (by decide) (by omega) (by omega) (fun c42 => ?_) (fun c42 => ?_)
              · refine ev_iconstZ dX3_isInside_49 ?_
                refine ev_zreturn dX3_isInside_50 rfl (by decide) ?_
                refine ⟨?_, rfl⟩
                unfold insB
                by_cases x9 : p1 = 9 ∨ p1 = 4 ∨ p1 = 5
                · rw [if_pos x9]; first | rfl | (exfalso; omega)
                · rw [if_neg x9]
                  by_cases y7 : k1 = 7
                  · subst y7; first | (simp [bI]; done) | (exfalso; omega)
                  · by_cases y6 : k1 = 6
                    · subst y6
                      by_cases z7 : p1 = 7
                      · subst z7; first | (simp [bI]; done) | (exfalso; omega)
                      · first | (simp [bI, z7]; done) | (exfalso; omega)
                    · by_cases y3 : k1 = 3
                      · subst y3
                        by_cases z3 : p1 = 3
                        · subst z3; first | (simp [bI]; done) | (exfalso; omega)
                        · first | (simp [bI, z3]; done) | (exfalso; omega)
                      · first | (simp [bI, y3, y6, y7]; done) | (exfalso; omega)
              · refine ev_iconstZ dX3_isInside_45 ?_
                refine ev_goto (tgt := 50) dX3_isInside_46 (by decide) ?_
                refine ev_zreturn dX3_isInside_50 rfl (by decide) ?_
                refine ⟨?_, rfl⟩
                unfold insB
                by_cases x9 : p1 = 9 ∨ p1 = 4 ∨ p1 = 5
                · rw [if_pos x9]; first | rfl | (exfalso; omega)
                · rw [if_neg x9]
                  by_cases y7 : k1 = 7
                  · subst y7; first | (simp [bI]; done) | (exfalso; omega)
                  · by_cases y6 : k1 = 6
                    · subst y6
                      by_cases z7 : p1 = 7
                      · subst z7; first | (simp [bI]; done) | (exfalso; omega)
                      · first | (simp [bI, z7]; done) | (exfalso; omega)
                    · by_cases y3 : k1 = 3
                      · subst y3
                        by_cases z3 : p1 = 3
                        · subst z3; first | (simp [bI]; done) | (exfalso; omega)
                        · first | (simp [bI, z3]; done) | (exfalso; omega)
                      · first | (simp [bI, y3, y6, y7]; done) | (exfalso; omega)
          · refine ev_iload_n dX3_isInside_29 rfl ?_
            refine ev_bipushZ dX3_isInside_30 rfl ?_
            refine ev_icmp_neZ (tgt := 45) dX3_isInside_32 (by decide) (by omega) (by omega) (fun c32 => ?_) (fun c32 => ?_)
            · refine ev_iconstZ dX3_isInside_45 ?_
              refine ev_goto (tgt := 50) dX3_isInside_46 (by decide) ?_
              refine ev_zreturn dX3_isInside_50 rfl (by decide) ?_
              refine ⟨?_, rfl⟩
              unfold insB
              by_cases x9 : p1 = 9 ∨ p1 = 4 ∨ p1 = 5
              · rw [if_pos x9]; first | rfl | (exfalso; omega)
              · rw [if_neg x9]
                by_cases y7 : k1 = 7
                · subst y7; first | (simp [bI]; done) | (exfalso; omega)
                · by_cases y6 : k1 = 6
                  · subst y6
                    by_cases z7 : p1 = 7
                    · subst z7; first | (simp [bI]; done) | (exfalso; omega)
                    · first | (simp [bI, z7]; done) | (exfalso; omega)
                  · by_cases y3 : k1 = 3
                    · subst y3
                      by_cases z3 : p1 = 3
                      · subst z3; first | (simp [bI]; done) | (exfalso; omega)
                      · first | (simp [bI, z3]; done) | (exfalso; omega)
                    · first | (simp [bI, y3, y6, y7]; done) | (exfalso; omega)
            · refine ev_iload_n dX3_isInside_35 rfl ?_
              refine ev_iconstZ dX3_isInside_36 ?_
              refine ev_icmp_neZ (tgt := 49) dX3_isInside_37 (by decide) (by omega) (by omega) (fun c37 => ?_) (fun c37 => ?_)
              · refine ev_iconstZ dX3_isInside_49 ?_
                refine ev_zreturn dX3_isInside_50 rfl (by decide) ?_
                refine ⟨?_, rfl⟩
                unfold insB
                by_cases x9 : p1 = 9 ∨ p1 = 4 ∨ p1 = 5
                · rw [if_pos x9]; first | rfl | (exfalso; omega)
                · rw [if_neg x9]
                  by_cases y7 : k1 = 7
                  · subst y7; first | (simp [bI]; done) | (exfalso; omega)
                  · by_cases y6 : k1 = 6
                    · subst y6
                      by_cases z7 : p1 = 7
                      · subst z7; first | (simp [bI]; done) | (exfalso; omega)
                      · first | (simp [bI, z7]; done) | (exfalso; omega)
                    · by_cases y3 : k1 = 3
                      · subst y3
                        by_cases z3 : p1 = 3
                        · subst z3; first | (simp [bI]; done) | (exfalso; omega)
                        · first | (simp [bI, z3]; done) | (exfalso; omega)
                      · first | (simp [bI, y3, y6, y7]; done) | (exfalso; omega)
              · refine ev_iload_n dX3_isInside_40 rfl ?_
                refine ev_iconstZ dX3_isInside_41 ?_
                refine ev_icmp_neZ (tgt := 49) dX3_isInside_42 (by decide) (by omega) (by omega) (fun c42 => ?_) (fun c42 => ?_)
                · refine ev_iconstZ dX3_isInside_49 ?_
                  refine ev_zreturn dX3_isInside_50 rfl (by decide) ?_
                  refine ⟨?_, rfl⟩
                  unfold insB
                  by_cases x9 : p1 = 9 ∨ p1 = 4 ∨ p1 = 5
                  · rw [if_pos x9]; first | rfl | (exfalso; omega)
                  · rw [if_neg x9]
                    by_cases y7 : k1 = 7
                    · subst y7; first | (simp [bI]; done) | (exfalso; omega)
                    · by_cases y6 : k1 = 6
                      · subst y6
                        by_cases z7 : p1 = 7
                        · subst z7; first | (simp [bI]; done) | (exfalso; omega)
                        · first | (simp [bI, z7]; done) | (exfalso; omega)
                      · by_cases y3 : k1 = 3
                        · subst y3
                          by_cases z3 : p1 = 3
                          · subst z3; first | (simp [bI]; done) | (exfalso; omega)
                          · first | (simp [bI, z3]; done) | (exfalso; omega)
                        · first | (simp [bI, y3, y6, y7]; done) | (exfalso; omega)
                · refine ev_iconstZ dX3_isInside_45 ?_
                  refine ev_goto (tgt := 50) dX3_isInside_46 (by decide) ?_
                  refine ev_zreturn dX3_isInside_50 rfl (by decide) ?_
                  refine ⟨?_, rfl⟩
                  unfold insB
                  by_cases x9 : p1 = 9 ∨ p1 = 4 ∨ p1 = 5
                  · rw [if_pos x9]; first | rfl | (exfalso; omega)
                  · rw [if_neg x9]
                    by_cases y7 : k1 = 7
                    · subst y7; first | (simp [bI]; done) | (exfalso; omega)
                    · by_cases y6 : k1 = 6
                      · subst y6
                        by_cases z7 : p1 = 7
                        · subst z7; first | (simp [bI]; done) | (exfalso; omega)
                        · first | (simp [bI, z7]; done) | (exfalso; omega)
                      · by_cases y3 : k1 = 3
                        · subst y3
                          by_cases z3 : p1 = 3
                          · subst z3; first | (simp [bI]; done) | (exfalso; omega)
                          · first | (simp [bI, z3]; done) | (exfalso; omega)
                        · first | (simp [bI, y3, y6, y7]; done) | (exfalso; omega)
      · refine ev_iconstZ dX3_isInside_15 ?_
        refine ev_zreturn dX3_isInside_16 rfl (by decide) ?_
        refine ⟨?_, rfl⟩
        unfold insB
        by_cases x9 : p1 = 9 ∨ p1 = 4 ∨ p1 = 5
        · rw [if_pos x9]; first | rfl | (exfalso; omega)
        · rw [if_neg x9]
          by_cases y7 : k1 = 7
          · subst y7; first | (simp [bI]; done) | (exfalso; omega)
          · by_cases y6 : k1 = 6
            · subst y6
              by_cases z7 : p1 = 7
              · subst z7; first | (simp [bI]; done) | (exfalso; omega)
              · first | (simp [bI, z7]; done) | (exfalso; omega)
            · by_cases y3 : k1 = 3
              · subst y3
                by_cases z3 : p1 = 3
                · subst z3; first | (simp [bI]; done) | (exfalso; omega)
                · first | (simp [bI, z3]; done) | (exfalso; omega)
              · first | (simp [bI, y3, y6, y7]; done) | (exfalso; omega)
end P10

/-! THE COMPONENT: moves of somebody (printed by gen) -/
section U7S
variable {g : GB} {M : MI} {d c k : Nat} {h : HM}
theorem sgN_46 : ∀ u : Fin 5, (sgN u.val = 46) ↔ u.val = 0 := by decide
set_option maxRecDepth 100000 in
set_option maxHeartbeats 4000000 in
theorem k_movesX1 {I : HM} {a st fo : Nat} {D : Dn} {l : List Nd} {P : Pt} (hSI : Sub I h) (H : DnC g I h a st fo D) (hp9 : D.2.2.2 = some l) (hP9 : P = mean l) {o : Nat} {y1 y2 y3 y4 y5 y6 y7 y8 y9 : Value} (HO : h o = some (.inr (0, [.ref a, y1, y2, y3, y4, y5, y6, y7, y8, y9]))) {e : Nat} (he : e < 8) (h99 : P.1.1 ≤ 99) (hn4 : ∀ e k, P.2.1 e k ≤ 4) : Kc g mX1_moves d (0) (0) [.ref o, vz ((e : Nat) : Int)] h (sR (some (vz ((mvN P e P.1.1 : Nat) : Int))) h) := by
  refine Kc.of (ls := [some (.ref o), some (vz ((e : Nat) : Int)), none, none, none, none, none]) (by decide +kernel) (Nat.le_of_ble_eq_true rfl) rfl ?_
  obtain ⟨A, B, pv, sv, K, hA, hB9, hV⟩ := id H
  obtain ⟨k1, k2, k3, k4, k5, k6, k7, k8⟩ := id K
  rw [hp9] at hV
  obtain ⟨p, sc, ss, cu, ru, rfl, rfl, hN, SA, SB, ⟨s1, s2, s3, s4, s5, s6, s7⟩, hSA, hSB⟩ := hV
  rw [← hP9] at s1 s3 s4 hSA hSB
  replace s1 := hSI _ _ s1
  replace s2 := hSI _ _ s2
  have sr := hSI _ _ (s3 e he)
  refine ev_iconstZ dX1_moves_0 ?_
  refine ev_istore_n dX1_moves_1 (by decide) rfl ?_
  dsimp only [List.set]
  refine ev_aload_n dX1_moves_2 rfl ?_
  refine ev_getf dX1_moves_3 gf_X1_37_X1 HO rfl ?_
  refine ev_getf dX1_moves_6 gf_X1_280_X2 k1 rfl ?_
  refine ev_getf dX1_moves_9 gf_X1_291_X5 s1 rfl ?_
  refine ev_iload_n dX1_moves_12 rfl ?_
  refine ev_aaldY (v := .ref (ss + 1 + e)) dX1_moves_13 s2 rfl rfl (by omega) (by rw [Int.toNat_natCast, if_pos he]; rfl) ?_
  refine ev_astore_n dX1_moves_14 (by decide) rfl ?_
  dsimp only [List.set]
  refine ev_aload_n dX1_moves_15 rfl ?_
  refine ev_alenZ dX1_moves_16 sr rfl ?_
  refine ev_istore dX1_moves_17 (by decide) rfl ?_
  dsimp only [List.set]
  refine ev_iconstZ dX1_moves_19 ?_
  refine ev_istore dX1_moves_20 (by decide) rfl ?_
  dsimp only [List.set]
  refine ev_for (st := []) P.1.1 (fun i h1 => h1 = h) (fun i => [some (.ref o), some (vz ((e : Nat) : Int)), some (vz ((mvN P e i : Nat) : Int)), some (.ref (ss + 1 + e)), some (vz ((P.1.1 : Nat) : Int)), some (vz ((i : Nat) : Int)), none]) 0 (Nat.zero_le _) rfl ⟨rfl, rfl, rfl, rfl, rfl, rfl, trivial⟩ (fun i h1 _ hi eh hK => ?_) (fun h1 eh => ?_)
  · subst eh
    have hu4 := hn4 e i
    have hm9 := mvN_le P e i
    have h46 := sgN_46 ⟨P.2.1 e i, by omega⟩
    dsimp only at h46
    have hs9 : sgN (P.2.1 e i) < 256 := by unfold sgN; (repeat' split) <;> omega
    refine ev_iload dX1_moves_22 rfl ?_
    refine ev_iload dX1_moves_24 rfl ?_
    refine ev_icmp_geZ (tgt := 56) dX1_moves_26 (by decide) (by omega) (by omega) (fun c26 => by omega) (fun c26 => ?_)
    refine ev_aload_n dX1_moves_29 rfl ?_
    refine ev_iload dX1_moves_30 rfl ?_
    refine ev_caldY dX1_moves_32 sr (by omega) ?_
    rw [Int.toNat_natCast, hSA e i he (by omega)]
    refine ev_istore dX1_moves_33 (by decide) rfl ?_
    dsimp only [List.set]
    refine ev_iload_n dX1_moves_35 rfl ?_
    refine ev_iload dX1_moves_36 rfl ?_
    refine ev_bipushZ dX1_moves_38 rfl ?_
    refine ev_icmp_neZ (tgt := 47) dX1_moves_40 (by decide) (by omega) (by omega) (fun c40 => ?_) (fun c40 => ?_)
    · refine ev_iconstZ dX1_moves_47 ?_
      refine ev_iaddZ dX1_moves_48 ?_
      refine ev_istore_n dX1_moves_49 (by decide) rfl ?_
      dsimp only [List.set]
      refine ev_iincZ dX1_moves_50 rfl (by decide) rfl ?_
      dsimp only [List.set]
      refine ev_goto (tgt := 22) dX1_moves_53 (by decide) ?_
      refine hK _ _ ⟨rfl, rfl, vz_eq ?_, rfl, rfl, vz_eq (by omega), trivial⟩ rfl
      show _ = ((mvN P e i + (if P.2.1 e i = 0 then 0 else 1) : Nat) : Int)
      first | rw [if_pos (h46.mp (by omega))]; omega | rw [if_neg (fun q => absurd (h46.mpr q) (by omega))]; omega
    · refine ev_iconstZ dX1_moves_43 ?_
      refine ev_goto (tgt := 48) dX1_moves_44 (by decide) ?_
      refine ev_iaddZ dX1_moves_48 ?_
      refine ev_istore_n dX1_moves_49 (by decide) rfl ?_
      dsimp only [List.set]
      refine ev_iincZ dX1_moves_50 rfl (by decide) rfl ?_
      dsimp only [List.set]
      refine ev_goto (tgt := 22) dX1_moves_53 (by decide) ?_
      refine hK _ _ ⟨rfl, rfl, vz_eq ?_, rfl, rfl, vz_eq (by omega), trivial⟩ rfl
      show _ = ((mvN P e i + (if P.2.1 e i = 0 then 0 else 1) : Nat) : Int)
      first | rw [if_pos (h46.mp (by omega))]; omega | rw [if_neg (fun q => absurd (h46.mpr q) (by omega))]; omega
  · subst eh
    refine ev_iload dX1_moves_22 rfl ?_
    refine ev_iload dX1_moves_24 rfl ?_
    refine ev_icmp_geZ (tgt := 56) dX1_moves_26 (by decide) (by omega) (by omega) (fun c26 => ?_) (fun c26 => by omega)
    refine ev_iload_n dX1_moves_56 rfl ?_
    refine ev_ireturn dX1_moves_57 rfl ?_
    exact ⟨rfl, rfl⟩
end U7S

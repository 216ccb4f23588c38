/-! THE COMPONENT: position and set of a dance (printed by gen) -/
section T0S
variable {g : GB} {M : MI} {d c k : Nat} {h : HM}
/-- I grown by the cells N of h' -/
def gro (I h' : HM) (N : List Nat) : HM := fun x => if x ∈ N then h' x else I x
theorem gro_in {I h' : HM} {N : List Nat} {x : Nat} (hx : x ∈ N) : gro I h' N x = h' x := if_pos hx
theorem Gw.grow {I h h' : HM} {N : List Nat} (hI : Sub I h) (hI' : Sub I h') (hN : ∀ x ∈ N, h x = none) (hC : ∀ x ∈ N, capOk (h' x)) : Gw I h (gro I h' N) h' := by
  refine ⟨fun x e hx => ?_, fun x e hx => ?_, fun x hx => ?_⟩
  · have : x ∉ N := fun q => by rw [hI.none (hN x q)] at hx; cases hx
    unfold gro; rw [if_neg this]; exact hx
  · unfold gro at hx
    split at hx
    · exact hx
    · exact hI' x e hx
  · by_cases q : x ∈ N
    · exact Or.inr ⟨hN x q, by rw [gro_in q]; exact hC x q⟩
    · unfold gro at hx; rw [if_neg q] at hx; exact Or.inl hx
def scN (sc ss cu ru : Nat) : List Nat := sc :: ss :: ru :: scS ss cu
theorem ScH.gro {I h' : HM} {sc n ss cu ru : Nat} {X : Nat → Nat → Int} {Y : Nat → Int} (K : ScH g h' sc n ss cu ru X Y) : ScH g (gro I h' (scN sc ss cu ru)) sc n ss cu ru X Y := by
  obtain ⟨A, B, ⟨k1, k2, k3, k4, k5, k6, k7⟩, hA, hB⟩ := K
  refine ⟨A, B, ⟨(gro_in (by simp [scN])).trans k1, (gro_in (by simp [scN])).trans k2, fun e he => (gro_in ?_).trans (k3 e he), (gro_in ?_).trans k4, (gro_in (by simp [scN])).trans k5, k6, k7⟩, hA, hB⟩
  · exact List.mem_cons_of_mem _ (List.mem_cons_of_mem _ (List.mem_cons_of_mem _ (mem_scS he)))
  · exact List.mem_cons_of_mem _ (List.mem_cons_of_mem _ (List.mem_cons_of_mem _ List.mem_cons_self))
set_option maxRecDepth 100000 in
set_option maxHeartbeats 4000000 in
theorem k_positionX2 {I : HM} {a st fo : Nat} {D : Dn} {l : List Nd} {P : Pt} (hSI : Sub I h) (H : DnC g I h a st fo D) (hp9 : D.2.2.2 = some l) (hP9 : P = mean l) {e n : Nat} {row : Bool} (he : e < 8) (hst : 0 ≤ D.2.1 e ∧ D.2.1 e < 100) (hco : 2 ≤ D.1.1 ∧ D.1.1 ≤ 9) (hn : n ≤ P.1.1 ∧ P.1.1 ≤ 99) (hn4 : ∀ e k, P.2.1 e k ≤ 4) : Kc g mX2_position 1 (0) (0) [.ref a, vz ((e : Nat) : Int), vz ((n : Nat) : Int), vz (bI row)] h (sR (some (vz (posS D P e n row))) h) := by
  refine Kc.of (ls := [some (.ref a), some (vz ((e : Nat) : Int)), some (vz ((n : Nat) : Int)), some (vz (bI row)), none, none, none]) (by decide +kernel) (Nat.le_of_ble_eq_true rfl) rfl ?_
  obtain ⟨A, B, pv, sv, K, hA, hB9, hV⟩ := id H
  obtain ⟨k1, k2, k3, k4, k5, k6, k7, k8⟩ := id K
  rw [hp9] at hV
  obtain ⟨p, sc, ss, cu, ru, rfl, rfl, hN, SA, SB, ⟨s1, s2, s3, s4, s5, s6, s7⟩, hSA, hSB⟩ := hV
  rw [← hP9] at s1 s3 s4 hSA hSB
  replace s1 := hSI _ _ s1
  replace s2 := hSI _ _ s2
  have sr := hSI _ _ (s3 e he)
  refine ev_iload_n dX2_position_0 rfl ?_
  refine ev_if_eqB (tgt := 18) dX2_position_1 (by decide) (fun c1 => ?_) (fun c1 => ?_)
  · refine ev_aload_n dX2_position_18 rfl ?_
    refine ev_getf dX2_position_19 gf_X2_9_X2 k1 rfl ?_
    refine ev_iload_n dX2_position_22 rfl ?_
    refine ev_ialdY dX2_position_23 k2 (by omega) ?_
    rw [Int.toNat_natCast, hA e he]
    refine ev_aload_n dX2_position_24 rfl ?_
    refine ev_getf dX2_position_25 gf_X2_20_X2 k1 rfl ?_
    refine ev_iremZ dX2_position_28 (by omega) (by omega) (by omega) (by omega) ?_
    refine ev_istore dX2_position_29 (by decide) rfl ?_
    dsimp only [List.set]
    refine ev_iconstZ dX2_position_31 ?_
    refine ev_istore dX2_position_32 (by decide) rfl ?_
    dsimp only [List.set]
    refine ev_for (st := []) n (fun i h1 => h1 = h) (fun i => [some (.ref a), some (vz ((e : Nat) : Int)), some (vz ((n : Nat) : Int)), some (vz (bI row)), some (vz (posS D P e i row)), some (vz ((i : Nat) : Int)), none]) 0 (Nat.zero_le _) rfl ⟨rfl, rfl, rfl, rfl, vz_eq (by unfold posS mvS; rw [c1]; simp), rfl, trivial⟩ (fun i h1 _ hi eh hK => ?_) (fun h1 eh => ?_)
    · subst eh
      have hu4 := hn4 e i
      refine ev_iload dX2_position_34 rfl ?_
      refine ev_iload_n dX2_position_36 rfl ?_
      refine ev_icmp_geZ (tgt := 82) dX2_position_37 (by decide) (by omega) (by omega) (fun c37 => by omega) (fun c37 => ?_)
      refine ev_aload_n dX2_position_40 rfl ?_
      refine ev_getf dX2_position_41 gf_X2_40_X2 k1 rfl ?_
      refine ev_getf dX2_position_44 gf_X2_69_X5 s1 rfl ?_
      refine ev_iload_n dX2_position_47 rfl ?_
      refine ev_aaldY (v := .ref (ss + 1 + e)) dX2_position_48 s2 rfl rfl (by omega) (by rw [Int.toNat_natCast, if_pos he]; rfl) ?_
      refine ev_iload dX2_position_49 rfl ?_
      refine ev_caldY dX2_position_51 sr (by omega) ?_
      rw [Int.toNat_natCast, hSA e i he (by omega)]
      refine ev_istore dX2_position_52 (by decide) rfl ?_
      dsimp only [List.set]
      refine ev_iload dX2_position_54 rfl ?_
      refine ev_iload_n dX2_position_56 rfl ?_
      refine ev_if_eqB (tgt := 68) dX2_position_57 (by decide) (fun c57 => ?_) (fun c57 => ?_)
      · refine ev_iload dX2_position_68 rfl ?_
        refine ev_callSE dX2_position_70 cs_X2_79 ce_X1_columnsOf rfl rfl (k_columnsOf (d := 0) hu4) (by omega) (Nat.le_of_ble_eq_true rfl) ?_
        refine ev_iaddZ dX2_position_73 ?_
        refine ev_istore dX2_position_74 (by decide) rfl ?_
        dsimp only [List.set]
        refine ev_iincZ dX2_position_76 rfl (by decide) rfl ?_
        dsimp only [List.set]
        refine ev_goto (tgt := 34) dX2_position_79 (by decide) ?_
        refine hK _ _ ⟨rfl, rfl, rfl, rfl, vz_eq ?_, vz_eq (by omega), trivial⟩ rfl
        unfold posS
        show _ = _ + (mvS P e row i + (if row then alo (P.2.1 e i : Nat) else acr (P.2.1 e i : Nat)))
        rw [c57, Int.add_assoc]; rfl
      · refine ev_iload dX2_position_60 rfl ?_
        refine ev_callSE dX2_position_62 cs_X2_75 ce_X1_rowsOf rfl rfl (k_rowsOf (d := 0) hu4) (by omega) (Nat.le_of_ble_eq_true rfl) ?_
        refine ev_goto (tgt := 73) dX2_position_65 (by decide) ?_
        refine ev_iaddZ dX2_position_73 ?_
        refine ev_istore dX2_position_74 (by decide) rfl ?_
        dsimp only [List.set]
        refine ev_iincZ dX2_position_76 rfl (by decide) rfl ?_
        dsimp only [List.set]
        refine ev_goto (tgt := 34) dX2_position_79 (by decide) ?_
        refine hK _ _ ⟨rfl, rfl, rfl, rfl, vz_eq ?_, vz_eq (by omega), trivial⟩ rfl
        unfold posS
        show _ = _ + (mvS P e row i + (if row then alo (P.2.1 e i : Nat) else acr (P.2.1 e i : Nat)))
        rw [c57, Int.add_assoc]; rfl
    · subst eh
      refine ev_iload dX2_position_34 rfl ?_
      refine ev_iload_n dX2_position_36 rfl ?_
      refine ev_icmp_geZ (tgt := 82) dX2_position_37 (by decide) (by omega) (by omega) (fun c37 => ?_) (fun c37 => by omega)
      refine ev_iload dX2_position_82 rfl ?_
      refine ev_ireturn dX2_position_84 rfl ?_
      exact ⟨rfl, rfl⟩
  · refine ev_aload_n dX2_position_4 rfl ?_
    refine ev_getf dX2_position_5 gf_X2_9_X2 k1 rfl ?_
    refine ev_iload_n dX2_position_8 rfl ?_
    refine ev_ialdY dX2_position_9 k2 (by omega) ?_
    rw [Int.toNat_natCast, hA e he]
    refine ev_aload_n dX2_position_10 rfl ?_
    refine ev_getf dX2_position_11 gf_X2_20_X2 k1 rfl ?_
    refine ev_idivZ dX2_position_14 (by omega) (by omega) (by omega) (by omega) ?_
    refine ev_goto (tgt := 29) dX2_position_15 (by decide) ?_
    refine ev_istore dX2_position_29 (by decide) rfl ?_
    dsimp only [List.set]
    refine ev_iconstZ dX2_position_31 ?_
    refine ev_istore dX2_position_32 (by decide) rfl ?_
    dsimp only [List.set]
    refine ev_for (st := []) n (fun i h1 => h1 = h) (fun i => [some (.ref a), some (vz ((e : Nat) : Int)), some (vz ((n : Nat) : Int)), some (vz (bI row)), some (vz (posS D P e i row)), some (vz ((i : Nat) : Int)), none]) 0 (Nat.zero_le _) rfl ⟨rfl, rfl, rfl, rfl, vz_eq (by unfold posS mvS; rw [c1]; simp), rfl, trivial⟩ (fun i h1 _ hi eh hK => ?_) (fun h1 eh => ?_)
    · subst eh
      have hu4 := hn4 e i
      refine ev_iload dX2_position_34 rfl ?_
      refine ev_iload_n dX2_position_36 rfl ?_
      refine ev_icmp_geZ (tgt := 82) dX2_position_37 (by decide) (by omega) (by omega) (fun c37 => by omega) (fun c37 => ?_)
      refine ev_aload_n dX2_position_40 rfl ?_
      refine ev_getf dX2_position_41 gf_X2_40_X2 k1 rfl ?_
      refine ev_getf dX2_position_44 gf_X2_69_X5 s1 rfl ?_
      refine ev_iload_n dX2_position_47 rfl ?_
      refine ev_aaldY (v := .ref (ss + 1 + e)) dX2_position_48 s2 rfl rfl (by omega) (by rw [Int.toNat_natCast, if_pos he]; rfl) ?_
      refine ev_iload dX2_position_49 rfl ?_
      refine ev_caldY dX2_position_51 sr (by omega) ?_
      rw [Int.toNat_natCast, hSA e i he (by omega)]
      refine ev_istore dX2_position_52 (by decide) rfl ?_
      dsimp only [List.set]
      refine ev_iload dX2_position_54 rfl ?_
      refine ev_iload_n dX2_position_56 rfl ?_
      refine ev_if_eqB (tgt := 68) dX2_position_57 (by decide) (fun c57 => ?_) (fun c57 => ?_)
      · refine ev_iload dX2_position_68 rfl ?_
        refine ev_callSE dX2_position_70 cs_X2_79 ce_X1_columnsOf rfl rfl (k_columnsOf (d := 0) hu4) (by omega) (Nat.le_of_ble_eq_true rfl) ?_
        refine ev_iaddZ dX2_position_73 ?_
        refine ev_istore dX2_position_74 (by decide) rfl ?_
        dsimp only [List.set]
        refine ev_iincZ dX2_position_76 rfl (by decide) rfl ?_
        dsimp only [List.set]
        refine ev_goto (tgt := 34) dX2_position_79 (by decide) ?_
        refine hK _ _ ⟨rfl, rfl, rfl, rfl, vz_eq ?_, vz_eq (by omega), trivial⟩ rfl
        unfold posS
        show _ = _ + (mvS P e row i + (if row then alo (P.2.1 e i : Nat) else acr (P.2.1 e i : Nat)))
        rw [c57, Int.add_assoc]; rfl
      · refine ev_iload dX2_position_60 rfl ?_
        refine ev_callSE dX2_position_62 cs_X2_75 ce_X1_rowsOf rfl rfl (k_rowsOf (d := 0) hu4) (by omega) (Nat.le_of_ble_eq_true rfl) ?_
        refine ev_goto (tgt := 73) dX2_position_65 (by decide) ?_
        refine ev_iaddZ dX2_position_73 ?_
        refine ev_istore dX2_position_74 (by decide) rfl ?_
        dsimp only [List.set]
        refine ev_iincZ dX2_position_76 rfl (by decide) rfl ?_
        dsimp only [List.set]
        refine ev_goto (tgt := 34) dX2_position_79 (by decide) ?_
        refine hK _ _ ⟨rfl, rfl, rfl, rfl, vz_eq ?_, vz_eq (by omega), trivial⟩ rfl
        unfold posS
        show _ = _ + (mvS P e row i + (if row then alo (P.2.1 e i : Nat) else acr (P.2.1 e i : Nat)))
        rw [c57, Int.add_assoc]; rfl
    · subst eh
      refine ev_iload dX2_position_34 rfl ?_
      refine ev_iload_n dX2_position_36 rfl ?_
      refine ev_icmp_geZ (tgt := 82) dX2_position_37 (by decide) (by omega) (by omega) (fun c37 => ?_) (fun c37 => by omega)
      refine ev_iload dX2_position_82 rfl ?_
      refine ev_ireturn dX2_position_84 rfl ?_
      exact ⟨rfl, rfl⟩
theorem fam_sc (κ : Nat) : fam_score κ = mX8_score := match κ with
  | 0 => rfl
  | 1 => rfl
  | 2 => rfl
  | 3 => rfl
  | 4 => rfl
  | 5 => rfl
  | _ + 6 => rfl
theorem scN_none {h : HM} {sc ss cu ru : Nat} (z1 : h sc = none) (z2 : h cu = none) (z3 : h ss = none) (z4 : h ru = none) (z5 : ∀ e : Nat, e < 8 → h (ss + 1 + e) = none) : ∀ x ∈ scN sc ss cu ru, h x = none := fun x hx => by
  unfold scN at hx
  simp only [List.mem_cons] at hx
  rcases hx with e | e | e | e
  · rw [e]; exact z1
  · rw [e]; exact z3
  · rw [e]; exact z4
  · rcases scS_mem e with r | ⟨j, hj, r⟩
    · rw [r]; exact z2
    · rw [r]; exact z5 j hj
theorem ScH.cap {h : HM} {sc n ss cu ru : Nat} {X : Nat → Nat → Int} {Y : Nat → Int} (K : ScH g h sc n ss cu ru X Y) : ∀ x ∈ scN sc ss cu ru, capOk (h x) := fun x hx => by
  obtain ⟨A, B, ⟨k1, k2, k3, k4, k5, k6, k7⟩, hA, hB⟩ := K
  unfold scN at hx
  simp only [List.mem_cons] at hx
  rcases hx with e | e | e | e
  · rw [e, k1]; intro _ _ q; cases q
  · rw [e, k2]; intro _ _ q; cases q
  · rw [e, k5]; intro _ _ q; cases q
  · rcases scS_mem e with r | ⟨j, hj, r⟩
    · rw [r, k4]; intro _ _ q; cases q
    · rw [r, k3 j hj]; intro _ _ q; cases q
theorem ScH.same {h h' : HM} {sc n ss cu ru : Nat} {X : Nat → Nat → Int} {Y : Nat → Int} (K : ScH g h sc n ss cu ru X Y) (hq : ∀ x ∈ scN sc ss cu ru, h' x = h x) : ScH g h' sc n ss cu ru X Y := by
  obtain ⟨A, B, ⟨k1, k2, k3, k4, k5, k6, k7⟩, hA, hB⟩ := K
  refine ⟨A, B, ⟨(hq _ (by simp [scN])).trans k1, (hq _ (by simp [scN])).trans k2, fun e he => (hq _ ?_).trans (k3 e he), (hq _ ?_).trans k4, (hq _ (by simp [scN])).trans k5, k6, k7⟩, hA, hB⟩
  · exact List.mem_cons_of_mem _ (List.mem_cons_of_mem _ (List.mem_cons_of_mem _ (mem_scS he)))
  · exact List.mem_cons_of_mem _ (List.mem_cons_of_mem _ (List.mem_cons_of_mem _ List.mem_cons_self))
set_option maxRecDepth 100000 in
set_option maxHeartbeats 4000000 in
theorem k_setX2 {I : HM} {a st fo p : Nat} {D : Dn} {l : List Nd} (hG : GKx g) (hSI : Sub I h) (H : DnC g I h a st fo D) (hIa : I a = none) (hN : NodeAt I 81 p l) (hl : l.length < 1000000) (hok : ∀ nd ∈ l, ndOk2 nd) (hP9 : sem l = .ok (mean l)) : Kc g mX2_set 496 (12) (9 * (mean l).1.1 + 17) [.ref a, .ref p] h (rR (fun v h' => ∃ J : HM, v = none ∧ Gw I h J h' ∧ DnC g J h' a st fo (wPiece D l) ∧ Fr g h h' [a])) := by
  refine Kc.of (ls := [some (.ref a), some (.ref p)]) (by decide +kernel) (Nat.le_of_ble_eq_true rfl) rfl ?_
  obtain ⟨A, B, pv, sv, K, hA, hB9, hV⟩ := id H
  obtain ⟨k1, k2, k3, k4, k5, k6, k7, k8⟩ := id K
  refine ev_aload_n dX2_set_0 rfl ?_
  refine ev_aload_n dX2_set_1 rfl ?_
  refine ev_putC [vz ((D.1.1 : Nat) : Int), vz ((D.1.2 : Nat) : Int), .ref st, .ref fo, .ref p, sv] dX2_set_2 gf_X2_36_X2 k1 k5 (Or.inl rfl) rfl rfl (Nat.le_of_ble_eq_true rfl) rfl (fun hp_1 k1_2 f3 => ?_)
  have F4 := ((Fr.refl (g := g) _ [a])).write (Or.inl ⟨_, k1_2⟩) f3 k5 (by simp)
  refine ev_aload_n dX2_set_5 rfl ?_
  refine ev_aload_n dX2_set_6 rfl ?_
  have hIh := hSI.fr F4 (fun x hx => Or.inl (by rw [List.mem_singleton.mp hx]; exact hIa))
  refine ev_callNR dX2_set_7 (nv_X2_66 hG) fe_score ((hN.sub hIh).cls) rfl rfl (by rw [fam_sc]; exact k_score (d := 495) hG hIh hN hl hok hP9 (by omega)) (by omega) (by omega) (by omega) (Nat.le_of_ble_eq_true rfl) (fun v5 h2 P5 => ?_)
  obtain ⟨sc, ss, cu, ru, rfl, HS, FS, z1, z2, z3, z4, z5⟩ := P5
  have FA := F4
  have KA := K.top k1_2 f3
  have k1_6 := FS.keep k1_2 (fun q => by cases q)
  have F7 := (F4).call FS nil_in
  have KB := KA.fr FS (fun x hx => by cases hx)
  refine ev_putC [vz ((D.1.1 : Nat) : Int), vz ((D.1.2 : Nat) : Int), .ref st, .ref fo, .ref p, .ref sc] dX2_set_10 gf_X2_40_X2 k1_6 k5 (Or.inl rfl) rfl rfl (Nat.le_of_ble_eq_true rfl) rfl (fun hp_8 k1_9 f10 => ?_)
  have F11 := (F7).write (Or.inl ⟨_, k1_9⟩) f10 k5 (by simp)
  refine ev_return dX2_set_13 rfl ?_
  have KC9 := KB.top k1_9 f10
  have hI3 := hSI.fr F11 (fun x hx => Or.inl (by rw [List.mem_singleton.mp hx]; exact hIa))
  have hz : ∀ x ∈ scN sc ss cu ru, h x = none := fun x hx => FA.fresh (scN_none z1 z2 z3 z4 z5 x hx)
  have hna : ∀ x ∈ scN sc ss cu ru, x ≠ a := fun x hx e => by have := hz x hx; rw [e, k1] at this; cases this
  have HS3 : ScP g hp_8 sc (mean l) ss cu ru := ScH.same HS (fun x hx => f10 x (hna x hx))
  have GG := Gw.grow hSI hI3 hz HS3.cap
  exact ⟨_, rfl, gro I hp_8 (scN sc ss cu ru), rfl, GG, ⟨_, _, _, _, KC9, hA, hB9, p, sc, ss, cu, ru, rfl, rfl, hN.sub GG.1, HS3.gro⟩, F11⟩
end T0S

/-! THE COMPONENT: the planner (printed by gen) -/
section W1S
variable {g : GB} {M : MI} {d c k : Nat} {h : HM}
variable {I h0 J : HM} {o pa pl a st fo : Nat} {D : Dn} {L : PL}
/-- the planner's cells: others' paths -/
def PnC (h : HM) (o pa pl a : Nat) (L : PL) : Prop := h o = some (.inr (16, [.ref pa, .ref pl, .ref a])) ∧ ∃ pf : Nat → Option Nat, h pa = some (.inl (6, (8, .inr (.inr (.inr (.inr (pf))))))) ∧ ∀ e : Nat, e < 8 → match L e with
  | none => pf e = none
  | some f => ∃ (q : Nat) (A : Nat → Int), pf e = some q ∧ h q = some (.inl (0, (21, .inl (fun j => zI (A j))))) ∧ ∀ k : Nat, k ≤ 20 → A k = ((f k : Nat) : Int)
theorem PnC.fr {h h' : HM} {S : List Nat} (K : PnC h o pa pl a L) (F : Fr g h h' S) (h1 : o ∉ S) (h2 : pa ∉ S) (h3 : ∀ x ∈ S, ∀ A : Nat → Int, h x ≠ some (.inl (0, (21, .inl (fun j => zI (A j)))))) : PnC h' o pa pl a L := by
  obtain ⟨k1, pf, k2, k3⟩ := K
  refine ⟨F.keep k1 h1, pf, F.keep k2 h2, fun e he => ?_⟩
  have := k3 e he
  cases q : L e with
  | none => rw [q] at this; exact this
  | some f =>
    rw [q] at this
    obtain ⟨x, A, a1, a2, a3⟩ := this
    exact ⟨x, A, a1, F.keep a2 (fun hx => h3 x hx A a2), a3⟩
theorem PnC.fr0 {h h' : HM} (K : PnC h o pa pl a L) (F : Fr g h h' []) : PnC h' o pa pl a L := K.fr F (fun q => by cases q) (fun q => by cases q) (fun x hx => by cases hx)
theorem posS_R {P : Pt} {e k : Nat} (h : D.2.1 e ≠ -1) : posS D P e k true = posR D P e k ∧ posS D P e k false = posC D P e k := by
  unfold posS posR posC r0 c0
  rw [if_neg h, if_neg h]
  exact ⟨rfl, rfl⟩
/-- where somebody stands at the end -/
def dnE (D : Dn) (P : Pt) (e : Nat) : Nat := ((D.1.1 : Int) * posR D P e P.1.1 + posC D P e P.1.1).toNat
set_option maxRecDepth 100000 in
set_option maxHeartbeats 4000000 in
theorem k_nb20 (K1 : h o = some (.inr (16, [.ref pa, .ref pl, .ref a]))) (H : DnC g I h a st fo D) (hco : 2 ≤ D.1.1 ∧ D.1.1 ≤ 9) (hro : 2 ≤ D.1.2 ∧ D.1.2 ≤ 9) {p s : Nat} (hs : s ≤ 4) (hp : p < 1000) : Kc g mX20_neighbor 1 (0) (0) [.ref o, vz ((p : Nat) : Int), vz ((sgN s : Nat) : Int)] h (sR (some (vz (nbI D.1.1 D.1.2 p s))) h) := by
  refine Kc.of (ls := [some (.ref o), some (vz ((p : Nat) : Int)), some (vz ((sgN s : Nat) : Int)), none, none]) (by decide +kernel) (Nat.le_of_ble_eq_true rfl) rfl ?_
  obtain ⟨A, B, pv, sv, K, hA, hB9, hV⟩ := id H
  obtain ⟨k1, k2, k3, k4, k5, k6, k7, k8⟩ := id K
  have ha5 : ∀ s : Fin 5, (-1 ≤ alo (s.val : Int) ∧ alo (s.val : Int) ≤ 1) ∧ (-1 ≤ acr (s.val : Int) ∧ acr (s.val : Int) ≤ 1) := by decide
  have ha5 := ha5 ⟨s, by omega⟩
  dsimp only at ha5
  have hd9 := Nat.div_le_self p D.1.1
  have hd0 : (0 : Int) ≤ ((p / D.1.1 : Nat) : Int) := Int.natCast_nonneg _
  have hm0 : (0 : Int) ≤ ((p % D.1.1 : Nat) : Int) := Int.natCast_nonneg _
  have hm9 := Nat.mod_lt p (show 0 < D.1.1 by omega)
  refine ev_iload_n dX20_neighbor_0 rfl ?_
  refine ev_aload_n dX20_neighbor_1 rfl ?_
  refine ev_getf dX20_neighbor_2 gf_X20_3_X20 K1 rfl ?_
  refine ev_getf dX20_neighbor_5 gf_X20_28_X2 k1 rfl ?_
  refine ev_idivZ dX20_neighbor_8 (by omega) (by omega) (by omega) (by omega) ?_
  refine ev_to (b := ((p / D.1.1 : Nat) : Int)) (by rw [Int.natCast_ediv]) ?_
  refine ev_iload_n dX20_neighbor_9 rfl ?_
  refine ev_callSE dX20_neighbor_10 cs_X20_47 ce_X1_rowsOf rfl rfl (k_rowsOf (d := 0) hs) (by omega) (Nat.le_of_ble_eq_true rfl) ?_
  refine ev_iaddZ dX20_neighbor_13 ?_
  refine ev_istore_n dX20_neighbor_14 (by decide) rfl ?_
  dsimp only [List.set]
  refine ev_iload_n dX20_neighbor_15 rfl ?_
  refine ev_aload_n dX20_neighbor_16 rfl ?_
  refine ev_getf dX20_neighbor_17 gf_X20_3_X20 K1 rfl ?_
  refine ev_getf dX20_neighbor_20 gf_X20_28_X2 k1 rfl ?_
  refine ev_iremZ dX20_neighbor_23 (by omega) (by omega) (by omega) (by omega) ?_
  refine ev_to (b := ((p % D.1.1 : Nat) : Int)) (by rw [Int.natCast_emod]) ?_
  refine ev_iload_n dX20_neighbor_24 rfl ?_
  refine ev_callSE dX20_neighbor_25 cs_X20_51 ce_X1_columnsOf rfl rfl (k_columnsOf (d := 0) hs) (by omega) (Nat.le_of_ble_eq_true rfl) ?_
  refine ev_iaddZ dX20_neighbor_28 ?_
  refine ev_istore dX20_neighbor_29 (by decide) rfl ?_
  dsimp only [List.set]
  refine ev_iload_n dX20_neighbor_31 rfl ?_
  refine ev_i2l dX20_neighbor_32 ?_
  refine ev_lconst0 dX20_neighbor_33 ?_
  refine ev_aload_n dX20_neighbor_34 rfl ?_
  refine ev_getf dX20_neighbor_35 gf_X20_3_X20 K1 rfl ?_
  refine ev_getf dX20_neighbor_38 gf_X20_54_X2 k1 rfl ?_
  refine ev_iconstZ dX20_neighbor_41 ?_
  refine ev_isubZ dX20_neighbor_42 ?_
  refine ev_i2l dX20_neighbor_43 ?_
  refine ev_callSE dX20_neighbor_44 cs_X20_57 ce_X1_inRange rfl rfl (k_inRange (d := 0) (a := (((p / D.1.1 : Nat) : Int) + alo ((s : Nat) : Int))) (lo := 0) (hi := ((D.1.2 : Nat) : Int) - 1) (by omega)) (by omega) (Nat.le_of_ble_eq_true rfl) ?_
  refine ev_if_eqB (tgt := 85) dX20_neighbor_47 (by decide) (fun c47 => ?_) (fun c47 => ?_)
  · have d47 := of_decide_eq_false c47
    refine ev_iconstZ dX20_neighbor_85 ?_
    refine ev_ireturn dX20_neighbor_86 rfl ?_
    refine ⟨congrArg Sum.inl (congrArg some (congrArg vz ?_)), rfl⟩
    unfold nbI nbP
    first | (rw [if_pos ⟨d47, d67⟩]; show _ = ((Int.toNat _ : Nat) : Int); rw [Int.toNat_of_nonneg (Int.add_nonneg (Int.mul_nonneg d47.1 (by omega)) d67.1)]) | (rw [if_neg (fun q => d47 q.1)]) | (rw [if_neg (fun q => d67 q.2)])
  · have d47 := of_decide_eq_true c47
    refine ev_iload dX20_neighbor_50 rfl ?_
    refine ev_i2l dX20_neighbor_52 ?_
    refine ev_lconst0 dX20_neighbor_53 ?_
    refine ev_aload_n dX20_neighbor_54 rfl ?_
    refine ev_getf dX20_neighbor_55 gf_X20_3_X20 K1 rfl ?_
    refine ev_getf dX20_neighbor_58 gf_X20_28_X2 k1 rfl ?_
    refine ev_iconstZ dX20_neighbor_61 ?_
    refine ev_isubZ dX20_neighbor_62 ?_
    refine ev_i2l dX20_neighbor_63 ?_
    refine ev_callSE dX20_neighbor_64 cs_X20_57 ce_X1_inRange rfl rfl (k_inRange (d := 0) (a := (((p % D.1.1 : Nat) : Int) + acr ((s : Nat) : Int))) (lo := 0) (hi := ((D.1.1 : Nat) : Int) - 1) (by omega)) (by omega) (Nat.le_of_ble_eq_true rfl) ?_
    refine ev_if_eqB (tgt := 85) dX20_neighbor_67 (by decide) (fun c67 => ?_) (fun c67 => ?_)
    · have d67 := of_decide_eq_false c67
      refine ev_iconstZ dX20_neighbor_85 ?_
      refine ev_ireturn dX20_neighbor_86 rfl ?_
      refine ⟨congrArg Sum.inl (congrArg some (congrArg vz ?_)), rfl⟩
      unfold nbI nbP
      first | (rw [if_pos ⟨d47, d67⟩]; show _ = ((Int.toNat _ : Nat) : Int); rw [Int.toNat_of_nonneg (Int.add_nonneg (Int.mul_nonneg d47.1 (by omega)) d67.1)]) | (rw [if_neg (fun q => d47 q.1)]) | (rw [if_neg (fun q => d67 q.2)])
    · have d67 := of_decide_eq_true c67
      refine ev_iload_n dX20_neighbor_70 rfl ?_
      refine ev_aload_n dX20_neighbor_71 rfl ?_
      refine ev_getf dX20_neighbor_72 gf_X20_3_X20 K1 rfl ?_
      refine ev_getf dX20_neighbor_75 gf_X20_28_X2 k1 rfl ?_
      refine ev_imulZ dX20_neighbor_78 ?_
      refine ev_iload dX20_neighbor_79 rfl ?_
      refine ev_iaddZ dX20_neighbor_81 ?_
      refine ev_goto (tgt := 86) dX20_neighbor_82 (by decide) ?_
      refine ev_ireturn dX20_neighbor_86 rfl ?_
      refine ⟨congrArg Sum.inl (congrArg some (congrArg vz ?_)), rfl⟩
      unfold nbI nbP
      first | (rw [if_pos ⟨d47, d67⟩]; show _ = ((Int.toNat _ : Nat) : Int); rw [Int.toNat_of_nonneg (Int.add_nonneg (Int.mul_nonneg d47.1 (by omega)) d67.1)]) | (rw [if_neg (fun q => d47 q.1)]) | (rw [if_neg (fun q => d67 q.2)])
/-- whether one may go from p at k to x (-1: nowhere), as far as those below n go -/
def mtI (L : PL) (k : Nat) (p x : Int) (e : Nat) : Bool := match L e with
  | none => true
  | some f => !decide (((f (k + 1) : Nat) : Int) = x) && !(decide (((f (k + 1) : Nat) : Int) = p) && decide (((f k : Nat) : Int) = x) && !decide (p = x))
def gnI (L : PL) (k : Nat) (p x : Int) : Nat → Bool
  | 0 => decide (x ≠ -1)
  | n + 1 => gnI L k p x n && mtI L k p x n
theorem gnI_go {L : PL} {k p x : Nat} : gnI L k p x 8 = goP L k p x := by
  have key : ∀ n, gnI L k (p : Int) (x : Int) n = true ↔ ∀ e, e < n → mtI L k (p : Int) (x : Int) e = true := by
    intro n
    induction n with
    | zero => exact ⟨fun _ e he => by omega, fun _ => by unfold gnI; exact decide_eq_true (by omega)⟩
    | succ n ih =>
      show (gnI L k p x n && mtI L k p x n) = true ↔ _
      rw [Bool.and_eq_true, ih]
      constructor
      · rintro ⟨a, b⟩ e he
        by_cases q : e = n
        · rw [q]; exact b
        · exact a e (by omega)
      · intro a; exact ⟨fun e he => a e (by omega), a n (by omega)⟩
  have k2 : gnI L k (p : Int) (x : Int) 8 = true ↔ goP L k p x = true := by
    rw [key]
    unfold goP
    rw [Bool.and_eq_true, frP_iff, crP_iff]
    constructor
    · intro a
      refine ⟨fun e f he hf q => ?_, fun e f he hf q => ?_⟩
      · have := a e he
        unfold mtI at this
        rw [hf] at this
        simp [q] at this
      · have := a e he
        unfold mtI at this
        rw [hf] at this
        simp [q.1, q.2.1] at this
        try exact q.2.2 (by omega)
    · rintro ⟨a, b⟩ e he
      unfold mtI
      cases hf : L e with
      | none => rfl
      | some f =>
        have h1 := a e f he hf
        have h2 := b e f he hf
        show (!decide (((f (k + 1) : Nat) : Int) = x) && !(decide (((f (k + 1) : Nat) : Int) = p) && decide (((f k : Nat) : Int) = x) && !decide ((p : Int) = x))) = true
        have h3 : ¬ (((f (k + 1) : Nat) : Int) = x) := by omega
        by_cases c1 : f (k + 1) = p
        · by_cases c2 : f k = x
          · have c3 : p = x := Decidable.byContradiction (fun c3 => h2 ⟨c1, c2, c3⟩)
            simp [h3, c3]
          · simp [h3, show ¬ ((f k : Nat) : Int) = x by omega]
        · simp [h3, show ¬ ((f (k + 1) : Nat) : Int) = p by omega]
  cases h1 : gnI L k (p : Int) (x : Int) 8 with
  | true => exact (k2.mp h1).symm
  | false =>
    cases h2 : goP L k p x with
    | false => rfl
    | true => rw [k2.mpr h2] at h1; cases h1
theorem gnI_no {L : PL} {k : Nat} {p : Int} : ∀ n, gnI L k p (-1) n = false := by
  intro n
  induction n with
  | zero => rfl
  | succ n ih => show (gnI L k p (-1) n && mtI L k p (-1) n) = false; rw [ih]; rfl
set_option maxRecDepth 100000 in
set_option maxHeartbeats 4000000 in
theorem k_canGo (K : PnC h o pa pl a L) {p x : Int} {k0 : Nat} (hk : k0 < 20) (hx : -1 ≤ x ∧ x < 1000) (hp : 0 ≤ p ∧ p < 1000) (hfb : ∀ (e : Nat) (f : Nat → Nat) (k : Nat), e < 8 → L e = some f → k ≤ 20 → f k < 1000) : Kc g mX20_canGo d (0) (0) [.ref o, vz p, vz x, vz (((k0 + 1 : Nat)) : Int)] h (sR (some (vz (bI (gnI L k0 p x 8)))) h) := by
  refine Kc.of (ls := [some (.ref o), some (vz p), some (vz x), some (vz (((k0 + 1 : Nat)) : Int)), none, none, none, none, none, none, none]) (by decide +kernel) (Nat.le_of_ble_eq_true rfl) rfl ?_
  obtain ⟨K1, pf, K2, K3⟩ := id K
  refine ev_iload_n dX20_canGo_0 rfl ?_
  refine ev_iconstZ dX20_canGo_1 ?_
  refine ev_icmp_eqZ (tgt := 9) dX20_canGo_2 (by decide) (by omega) (by omega) (fun c2 => ?_) (fun c2 => ?_)
  · refine ev_iconstZ dX20_canGo_9 ?_
    refine ev_istore dX20_canGo_10 (by decide) rfl ?_
    dsimp only [List.set]
    refine ev_aload_n dX20_canGo_12 rfl ?_
    refine ev_getf dX20_canGo_13 gf_X20_17_X20 K1 rfl ?_
    refine ev_astore dX20_canGo_16 (by decide) rfl ?_
    dsimp only [List.set]
    refine ev_aload dX20_canGo_18 rfl ?_
    refine ev_alenZ dX20_canGo_20 K2 rfl ?_
    refine ev_istore dX20_canGo_21 (by decide) rfl ?_
    dsimp only [List.set]
    refine ev_iconstZ dX20_canGo_23 ?_
    refine ev_istore dX20_canGo_24 (by decide) rfl ?_
    dsimp only [List.set]
    refine ev_for (st := []) 8 (fun i h1 => h1 = h) (fun i => [some (.ref o), some (vz p), some (vz x), some (vz (((k0 + 1 : Nat)) : Int)), some (vz (bI (gnI L k0 p x i))), some (.ref pa), some (vz 8), some (vz ((i : Nat) : Int)), none, none, none]) 0 (Nat.zero_le _) rfl ⟨rfl, rfl, rfl, rfl, vz_eq ?_, rfl, rfl, rfl, trivial⟩ (fun i h1 _ hi eh hK => ?_) (fun h1 eh => ?_)
    · show _ = bI (decide (x ≠ -1))
      first | (rw [decide_eq_true (by omega)]; rfl) | (rw [decide_eq_false (by omega)]; rfl)
    · subst eh
      have hc := K3 i hi
      cases hL : L i with
      | none =>
        rw [hL] at hc
        have hpf : pf i = none := hc
        refine ev_iload dX20_canGo_26 rfl ?_
        refine ev_iload dX20_canGo_28 rfl ?_
        refine ev_icmp_geZ (tgt := 118) dX20_canGo_30 (by decide) (by omega) (by omega) (fun c30 => by omega) (fun c30 => ?_)
        refine ev_aload dX20_canGo_33 rfl ?_
        refine ev_iload dX20_canGo_35 rfl ?_
        refine ev_aaldY (v := .null) dX20_canGo_37 K2 rfl rfl (by omega) (by rw [Int.toNat_natCast, hpf]; rfl) ?_
        refine ev_astoreN dX20_canGo_38 (by decide) rfl ?_
        dsimp only [List.set]
        refine ev_aloadN dX20_canGo_40 rfl ?_
        refine ev_ifnullN (tgt := 112) dX20_canGo_42 (by decide) ?_
        refine ev_iincZ dX20_canGo_112 rfl (by decide) rfl ?_
        dsimp only [List.set]
        refine ev_goto (tgt := 26) dX20_canGo_115 (by decide) ?_
        refine hK _ _ ⟨rfl, rfl, rfl, rfl, vz_eq ?_, rfl, rfl, vz_eq (by omega), trivial⟩ rfl
        show _ = bI (gnI L k0 p x i && mtI L k0 p x i)
        rw [show mtI L k0 p x i = true by unfold mtI; rw [hL], Bool.and_true]
      | some f =>
        rw [hL] at hc
        obtain ⟨q, A, hpf, hq, hA⟩ := hc
        have hb1 := hfb i f (k0 + 1) hi hL (by omega)
        have hb2 := hfb i f k0 hi hL (by omega)
        refine ev_iload dX20_canGo_26 rfl ?_
        refine ev_iload dX20_canGo_28 rfl ?_
        refine ev_icmp_geZ (tgt := 118) dX20_canGo_30 (by decide) (by omega) (by omega) (fun c30 => by omega) (fun c30 => ?_)
        refine ev_aload dX20_canGo_33 rfl ?_
        refine ev_iload dX20_canGo_35 rfl ?_
        refine ev_aaldY (v := .ref q) dX20_canGo_37 K2 rfl rfl (by omega) (by rw [Int.toNat_natCast, hpf]; rfl) ?_
        refine ev_astore dX20_canGo_38 (by decide) rfl ?_
        dsimp only [List.set]
        refine ev_aload dX20_canGo_40 rfl ?_
        refine ev_ifnull dX20_canGo_42 ?_
        refine ev_iload dX20_canGo_45 rfl ?_
        refine ev_if_eqB (tgt := 112) dX20_canGo_47 (by decide) (fun c47 => ?_) (fun c47 => ?_)
        · refine ev_iincZ dX20_canGo_112 rfl (by decide) rfl ?_
          dsimp only [List.set]
          refine ev_goto (tgt := 26) dX20_canGo_115 (by decide) ?_
          refine hK _ _ ⟨rfl, rfl, rfl, rfl, vz_eq ?_, rfl, rfl, vz_eq (by omega), trivial⟩ rfl
          show _ = bI (gnI L k0 p x i && mtI L k0 p x i)
          first | (rw [c47]; rfl) | (rw [show mtI L k0 p x i = true by (unfold mtI; rw [hL]; simp; omega), c47]; rfl) | (rw [show mtI L k0 p x i = false by (unfold mtI; rw [hL]; simp; omega), Bool.and_false]; rfl) | omega
        · refine ev_aload dX20_canGo_50 rfl ?_
          refine ev_iload_n dX20_canGo_52 rfl ?_
          refine ev_ialdY dX20_canGo_53 hq (by omega) ?_
          rw [Int.toNat_natCast, hA (k0 + 1) (by omega)]
          refine ev_iload_n dX20_canGo_54 rfl ?_
          refine ev_icmp_neZ (tgt := 62) dX20_canGo_55 (by decide) (by omega) (by omega) (fun c55 => ?_) (fun c55 => ?_)
          · refine ev_iconstZ dX20_canGo_62 ?_
            refine ev_istore dX20_canGo_63 (by decide) rfl ?_
            dsimp only [List.set]
            refine ev_aload dX20_canGo_65 rfl ?_
            refine ev_iload_n dX20_canGo_67 rfl ?_
            refine ev_ialdY dX20_canGo_68 hq (by omega) ?_
            rw [Int.toNat_natCast, hA (k0 + 1) (by omega)]
            refine ev_iload_n dX20_canGo_69 rfl ?_
            refine ev_icmp_neZ (tgt := 92) dX20_canGo_70 (by decide) (by omega) (by omega) (fun c70 => ?_) (fun c70 => ?_)
            · refine ev_iconstZ dX20_canGo_92 ?_
              refine ev_istore dX20_canGo_93 (by decide) rfl ?_
              dsimp only [List.set]
              refine ev_iload dX20_canGo_95 rfl ?_
              refine ev_if_neZ (tgt := 109) dX20_canGo_97 (by decide) (by omega) (fun c97 => by omega) (fun c97 => ?_)
              refine ev_iload dX20_canGo_100 rfl ?_
              refine ev_if_neZ (tgt := 109) dX20_canGo_102 (by decide) (by omega) (fun c102 => by omega) (fun c102 => ?_)
              refine ev_iconstZ dX20_canGo_105 ?_
              refine ev_goto (tgt := 110) dX20_canGo_106 (by decide) ?_
              refine ev_istore dX20_canGo_110 (by decide) rfl ?_
              dsimp only [List.set]
              refine ev_iincZ dX20_canGo_112 rfl (by decide) rfl ?_
              dsimp only [List.set]
              refine ev_goto (tgt := 26) dX20_canGo_115 (by decide) ?_
              refine hK _ _ ⟨rfl, rfl, rfl, rfl, vz_eq ?_, rfl, rfl, vz_eq (by omega), trivial⟩ rfl
              show _ = bI (gnI L k0 p x i && mtI L k0 p x i)
              first | (rw [c47]; rfl) | (rw [show mtI L k0 p x i = true by (unfold mtI; rw [hL]; simp; omega), c47]; rfl) | (rw [show mtI L k0 p x i = false by (unfold mtI; rw [hL]; simp; omega), Bool.and_false]; rfl) | omega
            · refine ev_aload dX20_canGo_73 rfl ?_
              refine ev_iload_n dX20_canGo_75 rfl ?_
              refine ev_iconstZ dX20_canGo_76 ?_
              refine ev_isubZ dX20_canGo_77 ?_
              refine ev_to (b := ((k0 : Nat) : Int)) (by omega) ?_
              refine ev_ialdY dX20_canGo_78 hq (by omega) ?_
              rw [Int.toNat_natCast, hA k0 (by omega)]
              refine ev_iload_n dX20_canGo_79 rfl ?_
              refine ev_icmp_neZ (tgt := 92) dX20_canGo_80 (by decide) (by omega) (by omega) (fun c80 => ?_) (fun c80 => ?_)
              · refine ev_iconstZ dX20_canGo_92 ?_
                refine ev_istore dX20_canGo_93 (by decide) rfl ?_
                dsimp only [List.set]
                refine ev_iload dX20_canGo_95 rfl ?_
                refine ev_if_neZ (tgt := 109) dX20_canGo_97 (by decide) (by omega) (fun c97 => by omega) (fun c97 => ?_)
                refine ev_iload dX20_canGo_100 rfl ?_
                refine ev_if_neZ (tgt := 109) dX20_canGo_102 (by decide) (by omega) (fun c102 => by omega) (fun c102 => ?_)
                refine ev_iconstZ dX20_canGo_105 ?_
                refine ev_goto (tgt := 110) dX20_canGo_106 (by decide) ?_
                refine ev_istore dX20_canGo_110 (by decide) rfl ?_
                dsimp only [List.set]
                refine ev_iincZ dX20_canGo_112 rfl (by decide) rfl ?_
                dsimp only [List.set]
                refine ev_goto (tgt := 26) dX20_canGo_115 (by decide) ?_
                refine hK _ _ ⟨rfl, rfl, rfl, rfl, vz_eq ?_, rfl, rfl, vz_eq (by omega), trivial⟩ rfl
                show _ = bI (gnI L k0 p x i && mtI L k0 p x i)
                first | (rw [c47]; rfl) | (rw [show mtI L k0 p x i = true by (unfold mtI; rw [hL]; simp; omega), c47]; rfl) | (rw [show mtI L k0 p x i = false by (unfold mtI; rw [hL]; simp; omega), Bool.and_false]; rfl) | omega
              · refine ev_iload_n dX20_canGo_83 rfl ?_
                refine ev_iload_n dX20_canGo_84 rfl ?_
                refine ev_icmp_eqZ (tgt := 92) dX20_canGo_85 (by decide) (by omega) (by omega) (fun c85 => ?_) (fun c85 => ?_)
                · refine ev_iconstZ dX20_canGo_92 ?_
                  refine ev_istore dX20_canGo_93 (by decide) rfl ?_
                  dsimp only [List.set]
                  refine ev_iload dX20_canGo_95 rfl ?_
                  refine ev_if_neZ (tgt := 109) dX20_canGo_97 (by decide) (by omega) (fun c97 => by omega) (fun c97 => ?_)
                  refine ev_iload dX20_canGo_100 rfl ?_
                  refine ev_if_neZ (tgt := 109) dX20_canGo_102 (by decide) (by omega) (fun c102 => by omega) (fun c102 => ?_)
                  refine ev_iconstZ dX20_canGo_105 ?_
                  refine ev_goto (tgt := 110) dX20_canGo_106 (by decide) ?_
                  refine ev_istore dX20_canGo_110 (by decide) rfl ?_
                  dsimp only [List.set]
                  refine ev_iincZ dX20_canGo_112 rfl (by decide) rfl ?_
                  dsimp only [List.set]
                  refine ev_goto (tgt := 26) dX20_canGo_115 (by decide) ?_
                  refine hK _ _ ⟨rfl, rfl, rfl, rfl, vz_eq ?_, rfl, rfl, vz_eq (by omega), trivial⟩ rfl
                  show _ = bI (gnI L k0 p x i && mtI L k0 p x i)
                  first | (rw [c47]; rfl) | (rw [show mtI L k0 p x i = true by (unfold mtI; rw [hL]; simp; omega), c47]; rfl) | (rw [show mtI L k0 p x i = false by (unfold mtI; rw [hL]; simp; omega), Bool.and_false]; rfl) | omega
                · refine ev_iconstZ dX20_canGo_88 ?_
                  refine ev_goto (tgt := 93) dX20_canGo_89 (by decide) ?_
                  refine ev_istore dX20_canGo_93 (by decide) rfl ?_
                  dsimp only [List.set]
                  refine ev_iload dX20_canGo_95 rfl ?_
                  refine ev_if_neZ (tgt := 109) dX20_canGo_97 (by decide) (by omega) (fun c97 => by omega) (fun c97 => ?_)
                  refine ev_iload dX20_canGo_100 rfl ?_
                  refine ev_if_neZ (tgt := 109) dX20_canGo_102 (by decide) (by omega) (fun c102 => ?_) (fun c102 => by omega)
                  refine ev_iconstZ dX20_canGo_109 ?_
                  refine ev_istore dX20_canGo_110 (by decide) rfl ?_
                  dsimp only [List.set]
                  refine ev_iincZ dX20_canGo_112 rfl (by decide) rfl ?_
                  dsimp only [List.set]
                  refine ev_goto (tgt := 26) dX20_canGo_115 (by decide) ?_
                  refine hK _ _ ⟨rfl, rfl, rfl, rfl, vz_eq ?_, rfl, rfl, vz_eq (by omega), trivial⟩ rfl
                  show _ = bI (gnI L k0 p x i && mtI L k0 p x i)
                  first | (rw [c47]; rfl) | (rw [show mtI L k0 p x i = true by (unfold mtI; rw [hL]; simp; omega), c47]; rfl) | (rw [show mtI L k0 p x i = false by (unfold mtI; rw [hL]; simp; omega), Bool.and_false]; rfl) | omega
          · refine ev_iconstZ dX20_canGo_58 ?_
            refine ev_goto (tgt := 63) dX20_canGo_59 (by decide) ?_
            refine ev_istore dX20_canGo_63 (by decide) rfl ?_
            dsimp only [List.set]
            refine ev_aload dX20_canGo_65 rfl ?_
            refine ev_iload_n dX20_canGo_67 rfl ?_
            refine ev_ialdY dX20_canGo_68 hq (by omega) ?_
            rw [Int.toNat_natCast, hA (k0 + 1) (by omega)]
            refine ev_iload_n dX20_canGo_69 rfl ?_
            refine ev_icmp_neZ (tgt := 92) dX20_canGo_70 (by decide) (by omega) (by omega) (fun c70 => ?_) (fun c70 => ?_)
            · refine ev_iconstZ dX20_canGo_92 ?_
              refine ev_istore dX20_canGo_93 (by decide) rfl ?_
              dsimp only [List.set]
              refine ev_iload dX20_canGo_95 rfl ?_
              refine ev_if_neZ (tgt := 109) dX20_canGo_97 (by decide) (by omega) (fun c97 => ?_) (fun c97 => by omega)
              refine ev_iconstZ dX20_canGo_109 ?_
              refine ev_istore dX20_canGo_110 (by decide) rfl ?_
              dsimp only [List.set]
              refine ev_iincZ dX20_canGo_112 rfl (by decide) rfl ?_
              dsimp only [List.set]
              refine ev_goto (tgt := 26) dX20_canGo_115 (by decide) ?_
              refine hK _ _ ⟨rfl, rfl, rfl, rfl, vz_eq ?_, rfl, rfl, vz_eq (by omega), trivial⟩ rfl
              show _ = bI (gnI L k0 p x i && mtI L k0 p x i)
              first | (rw [c47]; rfl) | (rw [show mtI L k0 p x i = true by (unfold mtI; rw [hL]; simp; omega), c47]; rfl) | (rw [show mtI L k0 p x i = false by (unfold mtI; rw [hL]; simp; omega), Bool.and_false]; rfl) | omega
            · refine ev_aload dX20_canGo_73 rfl ?_
              refine ev_iload_n dX20_canGo_75 rfl ?_
              refine ev_iconstZ dX20_canGo_76 ?_
              refine ev_isubZ dX20_canGo_77 ?_
              refine ev_to (b := ((k0 : Nat) : Int)) (by omega) ?_
              refine ev_ialdY dX20_canGo_78 hq (by omega) ?_
              rw [Int.toNat_natCast, hA k0 (by omega)]
              refine ev_iload_n dX20_canGo_79 rfl ?_
              refine ev_icmp_neZ (tgt := 92) dX20_canGo_80 (by decide) (by omega) (by omega) (fun c80 => ?_) (fun c80 => ?_)
              · refine ev_iconstZ dX20_canGo_92 ?_
                refine ev_istore dX20_canGo_93 (by decide) rfl ?_
                dsimp only [List.set]
                refine ev_iload dX20_canGo_95 rfl ?_
                refine ev_if_neZ (tgt := 109) dX20_canGo_97 (by decide) (by omega) (fun c97 => ?_) (fun c97 => by omega)
                refine ev_iconstZ dX20_canGo_109 ?_
                refine ev_istore dX20_canGo_110 (by decide) rfl ?_
                dsimp only [List.set]
                refine ev_iincZ dX20_canGo_112 rfl (by decide) rfl ?_
                dsimp only [List.set]
                refine ev_goto (tgt := 26) dX20_canGo_115 (by decide) ?_
                refine hK _ _ ⟨rfl, rfl, rfl, rfl, vz_eq ?_, rfl, rfl, vz_eq (by omega), trivial⟩ rfl
                show _ = bI (gnI L k0 p x i && mtI L k0 p x i)
                first | (rw [c47]; rfl) | (rw [show mtI L k0 p x i = true by (unfold mtI; rw [hL]; simp; omega), c47]; rfl) | (rw [show mtI L k0 p x i = false by (unfold mtI; rw [hL]; simp; omega), Bool.and_false]; rfl) | omega
              · refine ev_iload_n dX20_canGo_83 rfl ?_
                refine ev_iload_n dX20_canGo_84 rfl ?_
                refine ev_icmp_eqZ (tgt := 92) dX20_canGo_85 (by decide) (by omega) (by omega) (fun c85 => ?_) (fun c85 => ?_)
                · refine ev_iconstZ dX20_canGo_92 ?_
                  refine ev_istore dX20_canGo_93 (by decide) rfl ?_
                  dsimp only [List.set]
                  refine ev_iload dX20_canGo_95 rfl ?_
                  refine ev_if_neZ (tgt := 109) dX20_canGo_97 (by decide) (by omega) (fun c97 => ?_) (fun c97 => by omega)
                  refine ev_iconstZ dX20_canGo_109 ?_
                  refine ev_istore dX20_canGo_110 (by decide) rfl ?_
                  dsimp only [List.set]
                  refine ev_iincZ dX20_canGo_112 rfl (by decide) rfl ?_
                  dsimp only [List.set]
                  refine ev_goto (tgt := 26) dX20_canGo_115 (by decide) ?_
                  refine hK _ _ ⟨rfl, rfl, rfl, rfl, vz_eq ?_, rfl, rfl, vz_eq (by omega), trivial⟩ rfl
                  show _ = bI (gnI L k0 p x i && mtI L k0 p x i)
                  first | (rw [c47]; rfl) | (rw [show mtI L k0 p x i = true by (unfold mtI; rw [hL]; simp; omega), c47]; rfl) | (rw [show mtI L k0 p x i = false by (unfold mtI; rw [hL]; simp; omega), Bool.and_false]; rfl) | omega
                · refine ev_iconstZ dX20_canGo_88 ?_
                  refine ev_goto (tgt := 93) dX20_canGo_89 (by decide) ?_
                  refine ev_istore dX20_canGo_93 (by decide) rfl ?_
                  dsimp only [List.set]
                  refine ev_iload dX20_canGo_95 rfl ?_
                  refine ev_if_neZ (tgt := 109) dX20_canGo_97 (by decide) (by omega) (fun c97 => ?_) (fun c97 => by omega)
                  refine ev_iconstZ dX20_canGo_109 ?_
                  refine ev_istore dX20_canGo_110 (by decide) rfl ?_
                  dsimp only [List.set]
                  refine ev_iincZ dX20_canGo_112 rfl (by decide) rfl ?_
                  dsimp only [List.set]
                  refine ev_goto (tgt := 26) dX20_canGo_115 (by decide) ?_
                  refine hK _ _ ⟨rfl, rfl, rfl, rfl, vz_eq ?_, rfl, rfl, vz_eq (by omega), trivial⟩ rfl
                  show _ = bI (gnI L k0 p x i && mtI L k0 p x i)
                  first | (rw [c47]; rfl) | (rw [show mtI L k0 p x i = true by (unfold mtI; rw [hL]; simp; omega), c47]; rfl) | (rw [show mtI L k0 p x i = false by (unfold mtI; rw [hL]; simp; omega), Bool.and_false]; rfl) | omega
    · subst eh
      refine ev_iload dX20_canGo_26 rfl ?_
      refine ev_iload dX20_canGo_28 rfl ?_
      refine ev_icmp_geZ (tgt := 118) dX20_canGo_30 (by decide) (by omega) (by omega) (fun c30 => ?_) (fun c30 => by omega)
      refine ev_iload dX20_canGo_118 rfl ?_
      refine ev_zreturn dX20_canGo_120 rfl (by cases gnI L k0 p x 8 <;> rfl) ?_
      exact ⟨rfl, rfl⟩
  · refine ev_iconstZ dX20_canGo_5 ?_
    refine ev_goto (tgt := 10) dX20_canGo_6 (by decide) ?_
    refine ev_istore dX20_canGo_10 (by decide) rfl ?_
    dsimp only [List.set]
    refine ev_aload_n dX20_canGo_12 rfl ?_
    refine ev_getf dX20_canGo_13 gf_X20_17_X20 K1 rfl ?_
    refine ev_astore dX20_canGo_16 (by decide) rfl ?_
    dsimp only [List.set]
    refine ev_aload dX20_canGo_18 rfl ?_
    refine ev_alenZ dX20_canGo_20 K2 rfl ?_
    refine ev_istore dX20_canGo_21 (by decide) rfl ?_
    dsimp only [List.set]
    refine ev_iconstZ dX20_canGo_23 ?_
    refine ev_istore dX20_canGo_24 (by decide) rfl ?_
    dsimp only [List.set]
    refine ev_for (st := []) 8 (fun i h1 => h1 = h) (fun i => [some (.ref o), some (vz p), some (vz x), some (vz (((k0 + 1 : Nat)) : Int)), some (vz (bI (gnI L k0 p x i))), some (.ref pa), some (vz 8), some (vz ((i : Nat) : Int)), none, none, none]) 0 (Nat.zero_le _) rfl ⟨rfl, rfl, rfl, rfl, vz_eq ?_, rfl, rfl, rfl, trivial⟩ (fun i h1 _ hi eh hK => ?_) (fun h1 eh => ?_)
    · show _ = bI (decide (x ≠ -1))
      first | (rw [decide_eq_true (by omega)]; rfl) | (rw [decide_eq_false (by omega)]; rfl)
    · subst eh
      have hc := K3 i hi
      cases hL : L i with
      | none =>
        rw [hL] at hc
        have hpf : pf i = none := hc
        refine ev_iload dX20_canGo_26 rfl ?_
        refine ev_iload dX20_canGo_28 rfl ?_
        refine ev_icmp_geZ (tgt := 118) dX20_canGo_30 (by decide) (by omega) (by omega) (fun c30 => by omega) (fun c30 => ?_)
        refine ev_aload dX20_canGo_33 rfl ?_
        refine ev_iload dX20_canGo_35 rfl ?_
        refine ev_aaldY (v := .null) dX20_canGo_37 K2 rfl rfl (by omega) (by rw [Int.toNat_natCast, hpf]; rfl) ?_
        refine ev_astoreN dX20_canGo_38 (by decide) rfl ?_
        dsimp only [List.set]
        refine ev_aloadN dX20_canGo_40 rfl ?_
        refine ev_ifnullN (tgt := 112) dX20_canGo_42 (by decide) ?_
        refine ev_iincZ dX20_canGo_112 rfl (by decide) rfl ?_
        dsimp only [List.set]
        refine ev_goto (tgt := 26) dX20_canGo_115 (by decide) ?_
        refine hK _ _ ⟨rfl, rfl, rfl, rfl, vz_eq ?_, rfl, rfl, vz_eq (by omega), trivial⟩ rfl
        show _ = bI (gnI L k0 p x i && mtI L k0 p x i)
        rw [show mtI L k0 p x i = true by unfold mtI; rw [hL], Bool.and_true]
      | some f =>
        rw [hL] at hc
        obtain ⟨q, A, hpf, hq, hA⟩ := hc
        have hb1 := hfb i f (k0 + 1) hi hL (by omega)
        have hb2 := hfb i f k0 hi hL (by omega)
        refine ev_iload dX20_canGo_26 rfl ?_
        refine ev_iload dX20_canGo_28 rfl ?_
        refine ev_icmp_geZ (tgt := 118) dX20_canGo_30 (by decide) (by omega) (by omega) (fun c30 => by omega) (fun c30 => ?_)
        refine ev_aload dX20_canGo_33 rfl ?_
        refine ev_iload dX20_canGo_35 rfl ?_
        refine ev_aaldY (v := .ref q) dX20_canGo_37 K2 rfl rfl (by omega) (by rw [Int.toNat_natCast, hpf]; rfl) ?_
        refine ev_astore dX20_canGo_38 (by decide) rfl ?_
        dsimp only [List.set]
        refine ev_aload dX20_canGo_40 rfl ?_
        refine ev_ifnull dX20_canGo_42 ?_
        refine ev_iload dX20_canGo_45 rfl ?_
        refine ev_if_eqB (tgt := 112) dX20_canGo_47 (by decide) (fun c47 => ?_) (fun c47 => ?_)
        · refine ev_iincZ dX20_canGo_112 rfl (by decide) rfl ?_
          dsimp only [List.set]
          refine ev_goto (tgt := 26) dX20_canGo_115 (by decide) ?_
          refine hK _ _ ⟨rfl, rfl, rfl, rfl, vz_eq ?_, rfl, rfl, vz_eq (by omega), trivial⟩ rfl
          show _ = bI (gnI L k0 p x i && mtI L k0 p x i)
          first | (rw [c47]; rfl) | (rw [show mtI L k0 p x i = true by (unfold mtI; rw [hL]; simp; omega), c47]; rfl) | (rw [show mtI L k0 p x i = false by (unfold mtI; rw [hL]; simp; omega), Bool.and_false]; rfl) | omega
        · refine ev_aload dX20_canGo_50 rfl ?_
          refine ev_iload_n dX20_canGo_52 rfl ?_
          refine ev_ialdY dX20_canGo_53 hq (by omega) ?_
          rw [Int.toNat_natCast, hA (k0 + 1) (by omega)]
          refine ev_iload_n dX20_canGo_54 rfl ?_
          refine ev_icmp_neZ (tgt := 62) dX20_canGo_55 (by decide) (by omega) (by omega) (fun c55 => ?_) (fun c55 => ?_)
          · refine ev_iconstZ dX20_canGo_62 ?_
            refine ev_istore dX20_canGo_63 (by decide) rfl ?_
            dsimp only [List.set]
            refine ev_aload dX20_canGo_65 rfl ?_
            refine ev_iload_n dX20_canGo_67 rfl ?_
            refine ev_ialdY dX20_canGo_68 hq (by omega) ?_
            rw [Int.toNat_natCast, hA (k0 + 1) (by omega)]
            refine ev_iload_n dX20_canGo_69 rfl ?_
            refine ev_icmp_neZ (tgt := 92) dX20_canGo_70 (by decide) (by omega) (by omega) (fun c70 => ?_) (fun c70 => ?_)
            · refine ev_iconstZ dX20_canGo_92 ?_
              refine ev_istore dX20_canGo_93 (by decide) rfl ?_
              dsimp only [List.set]
              refine ev_iload dX20_canGo_95 rfl ?_
              refine ev_if_neZ (tgt := 109) dX20_canGo_97 (by decide) (by omega) (fun c97 => by omega) (fun c97 => ?_)
              refine ev_iload dX20_canGo_100 rfl ?_
              refine ev_if_neZ (tgt := 109) dX20_canGo_102 (by decide) (by omega) (fun c102 => by omega) (fun c102 => ?_)
              refine ev_iconstZ dX20_canGo_105 ?_
              refine ev_goto (tgt := 110) dX20_canGo_106 (by decide) ?_
              refine ev_istore dX20_canGo_110 (by decide) rfl ?_
              dsimp only [List.set]
              refine ev_iincZ dX20_canGo_112 rfl (by decide) rfl ?_
              dsimp only [List.set]
              refine ev_goto (tgt := 26) dX20_canGo_115 (by decide) ?_
              refine hK _ _ ⟨rfl, rfl, rfl, rfl, vz_eq ?_, rfl, rfl, vz_eq (by omega), trivial⟩ rfl
              show _ = bI (gnI L k0 p x i && mtI L k0 p x i)
              first | (rw [c47]; rfl) | (rw [show mtI L k0 p x i = true by (unfold mtI; rw [hL]; simp; omega), c47]; rfl) | (rw [show mtI L k0 p x i = false by (unfold mtI; rw [hL]; simp; omega), Bool.and_false]; rfl) | omega
            · refine ev_aload dX20_canGo_73 rfl ?_
              refine ev_iload_n dX20_canGo_75 rfl ?_
              refine ev_iconstZ dX20_canGo_76 ?_
              refine ev_isubZ dX20_canGo_77 ?_
              refine ev_to (b := ((k0 : Nat) : Int)) (by omega) ?_
              refine ev_ialdY dX20_canGo_78 hq (by omega) ?_
              rw [Int.toNat_natCast, hA k0 (by omega)]
              refine ev_iload_n dX20_canGo_79 rfl ?_
              refine ev_icmp_neZ (tgt := 92) dX20_canGo_80 (by decide) (by omega) (by omega) (fun c80 => ?_) (fun c80 => ?_)
              · refine ev_iconstZ dX20_canGo_92 ?_
                refine ev_istore dX20_canGo_93 (by decide) rfl ?_
                dsimp only [List.set]
                refine ev_iload dX20_canGo_95 rfl ?_
                refine ev_if_neZ (tgt := 109) dX20_canGo_97 (by decide) (by omega) (fun c97 => by omega) (fun c97 => ?_)
                refine ev_iload dX20_canGo_100 rfl ?_
                refine ev_if_neZ (tgt := 109) dX20_canGo_102 (by decide) (by omega) (fun c102 => by omega) (fun c102 => ?_)
                refine ev_iconstZ dX20_canGo_105 ?_
                refine ev_goto (tgt := 110) dX20_canGo_106 (by decide) ?_
                refine ev_istore dX20_canGo_110 (by decide) rfl ?_
                dsimp only [List.set]
                refine ev_iincZ dX20_canGo_112 rfl (by decide) rfl ?_
                dsimp only [List.set]
                refine ev_goto (tgt := 26) dX20_canGo_115 (by decide) ?_
                refine hK _ _ ⟨rfl, rfl, rfl, rfl, vz_eq ?_, rfl, rfl, vz_eq (by omega), trivial⟩ rfl
                show _ = bI (gnI L k0 p x i && mtI L k0 p x i)
                first | (rw [c47]; rfl) | (rw [show mtI L k0 p x i = true by (unfold mtI; rw [hL]; simp; omega), c47]; rfl) | (rw [show mtI L k0 p x i = false by (unfold mtI; rw [hL]; simp; omega), Bool.and_false]; rfl) | omega
              · refine ev_iload_n dX20_canGo_83 rfl ?_
                refine ev_iload_n dX20_canGo_84 rfl ?_
                refine ev_icmp_eqZ (tgt := 92) dX20_canGo_85 (by decide) (by omega) (by omega) (fun c85 => ?_) (fun c85 => ?_)
                · refine ev_iconstZ dX20_canGo_92 ?_
                  refine ev_istore dX20_canGo_93 (by decide) rfl ?_
                  dsimp only [List.set]
                  refine ev_iload dX20_canGo_95 rfl ?_
                  refine ev_if_neZ (tgt := 109) dX20_canGo_97 (by decide) (by omega) (fun c97 => by omega) (fun c97 => ?_)
                  refine ev_iload dX20_canGo_100 rfl ?_
                  refine ev_if_neZ (tgt := 109) dX20_canGo_102 (by decide) (by omega) (fun c102 => by omega) (fun c102 => ?_)
                  refine ev_iconstZ dX20_canGo_105 ?_
                  refine ev_goto (tgt := 110) dX20_canGo_106 (by decide) ?_
                  refine ev_istore dX20_canGo_110 (by decide) rfl ?_
                  dsimp only [List.set]
                  refine ev_iincZ dX20_canGo_112 rfl (by decide) rfl ?_
                  dsimp only [List.set]
                  refine ev_goto (tgt := 26) dX20_canGo_115 (by decide) ?_
                  refine hK _ _ ⟨rfl, rfl, rfl, rfl, vz_eq ?_, rfl, rfl, vz_eq (by omega), trivial⟩ rfl
                  show _ = bI (gnI L k0 p x i && mtI L k0 p x i)
                  first | (rw [c47]; rfl) | (rw [show mtI L k0 p x i = true by (unfold mtI; rw [hL]; simp; omega), c47]; rfl) | (rw [show mtI L k0 p x i = false by (unfold mtI; rw [hL]; simp; omega), Bool.and_false]; rfl) | omega
                · refine ev_iconstZ dX20_canGo_88 ?_
                  refine ev_goto (tgt := 93) dX20_canGo_89 (by decide) ?_
                  refine ev_istore dX20_canGo_93 (by decide) rfl ?_
                  dsimp only [List.set]
                  refine ev_iload dX20_canGo_95 rfl ?_
                  refine ev_if_neZ (tgt := 109) dX20_canGo_97 (by decide) (by omega) (fun c97 => by omega) (fun c97 => ?_)
                  refine ev_iload dX20_canGo_100 rfl ?_
                  refine ev_if_neZ (tgt := 109) dX20_canGo_102 (by decide) (by omega) (fun c102 => ?_) (fun c102 => by omega)
                  refine ev_iconstZ dX20_canGo_109 ?_
                  refine ev_istore dX20_canGo_110 (by decide) rfl ?_
                  dsimp only [List.set]
                  refine ev_iincZ dX20_canGo_112 rfl (by decide) rfl ?_
                  dsimp only [List.set]
                  refine ev_goto (tgt := 26) dX20_canGo_115 (by decide) ?_
                  refine hK _ _ ⟨rfl, rfl, rfl, rfl, vz_eq ?_, rfl, rfl, vz_eq (by omega), trivial⟩ rfl
                  show _ = bI (gnI L k0 p x i && mtI L k0 p x i)
                  first | (rw [c47]; rfl) | (rw [show mtI L k0 p x i = true by (unfold mtI; rw [hL]; simp; omega), c47]; rfl) | (rw [show mtI L k0 p x i = false by (unfold mtI; rw [hL]; simp; omega), Bool.and_false]; rfl) | omega
          · refine ev_iconstZ dX20_canGo_58 ?_
            refine ev_goto (tgt := 63) dX20_canGo_59 (by decide) ?_
            refine ev_istore dX20_canGo_63 (by decide) rfl ?_
            dsimp only [List.set]
            refine ev_aload dX20_canGo_65 rfl ?_
            refine ev_iload_n dX20_canGo_67 rfl ?_
            refine ev_ialdY dX20_canGo_68 hq (by omega) ?_
            rw [Int.toNat_natCast, hA (k0 + 1) (by omega)]
            refine ev_iload_n dX20_canGo_69 rfl ?_
            refine ev_icmp_neZ (tgt := 92) dX20_canGo_70 (by decide) (by omega) (by omega) (fun c70 => ?_) (fun c70 => ?_)
            · refine ev_iconstZ dX20_canGo_92 ?_
              refine ev_istore dX20_canGo_93 (by decide) rfl ?_
              dsimp only [List.set]
              refine ev_iload dX20_canGo_95 rfl ?_
              refine ev_if_neZ (tgt := 109) dX20_canGo_97 (by decide) (by omega) (fun c97 => ?_) (fun c97 => by omega)
              refine ev_iconstZ dX20_canGo_109 ?_
              refine ev_istore dX20_canGo_110 (by decide) rfl ?_
              dsimp only [List.set]
              refine ev_iincZ dX20_canGo_112 rfl (by decide) rfl ?_
              dsimp only [List.set]
              refine ev_goto (tgt := 26) dX20_canGo_115 (by decide) ?_
              refine hK _ _ ⟨rfl, rfl, rfl, rfl, vz_eq ?_, rfl, rfl, vz_eq (by omega), trivial⟩ rfl
              show _ = bI (gnI L k0 p x i && mtI L k0 p x i)
              first | (rw [c47]; rfl) | (rw [show mtI L k0 p x i = true by (unfold mtI; rw [hL]; simp; omega), c47]; rfl) | (rw [show mtI L k0 p x i = false by (unfold mtI; rw [hL]; simp; omega), Bool.and_false]; rfl) | omega
            · refine ev_aload dX20_canGo_73 rfl ?_
              refine ev_iload_n dX20_canGo_75 rfl ?_
              refine ev_iconstZ dX20_canGo_76 ?_
              refine ev_isubZ dX20_canGo_77 ?_
              refine ev_to (b := ((k0 : Nat) : Int)) (by omega) ?_
              refine ev_ialdY dX20_canGo_78 hq (by omega) ?_
              rw [Int.toNat_natCast, hA k0 (by omega)]
              refine ev_iload_n dX20_canGo_79 rfl ?_
              refine ev_icmp_neZ (tgt := 92) dX20_canGo_80 (by decide) (by omega) (by omega) (fun c80 => ?_) (fun c80 => ?_)
              · refine ev_iconstZ dX20_canGo_92 ?_
                refine ev_istore dX20_canGo_93 (by decide) rfl ?_
                dsimp only [List.set]
                refine ev_iload dX20_canGo_95 rfl ?_
                refine ev_if_neZ (tgt := 109) dX20_canGo_97 (by decide) (by omega) (fun c97 => ?_) (fun c97 => by omega)
                refine ev_iconstZ dX20_canGo_109 ?_
                refine ev_istore dX20_canGo_110 (by decide) rfl ?_
                dsimp only [List.set]
                refine ev_iincZ dX20_canGo_112 rfl (by decide) rfl ?_
                dsimp only [List.set]
                refine ev_goto (tgt := 26) dX20_canGo_115 (by decide) ?_
                refine hK _ _ ⟨rfl, rfl, rfl, rfl, vz_eq ?_, rfl, rfl, vz_eq (by omega), trivial⟩ rfl
                show _ = bI (gnI L k0 p x i && mtI L k0 p x i)
                first | (rw [c47]; rfl) | (rw [show mtI L k0 p x i = true by (unfold mtI; rw [hL]; simp; omega), c47]; rfl) | (rw [show mtI L k0 p x i = false by (unfold mtI; rw [hL]; simp; omega), Bool.and_false]; rfl) | omega
              · refine ev_iload_n dX20_canGo_83 rfl ?_
                refine ev_iload_n dX20_canGo_84 rfl ?_
                refine ev_icmp_eqZ (tgt := 92) dX20_canGo_85 (by decide) (by omega) (by omega) (fun c85 => ?_) (fun c85 => ?_)
                · refine ev_iconstZ dX20_canGo_92 ?_
                  refine ev_istore dX20_canGo_93 (by decide) rfl ?_
                  dsimp only [List.set]
                  refine ev_iload dX20_canGo_95 rfl ?_
                  refine ev_if_neZ (tgt := 109) dX20_canGo_97 (by decide) (by omega) (fun c97 => ?_) (fun c97 => by omega)
                  refine ev_iconstZ dX20_canGo_109 ?_
                  refine ev_istore dX20_canGo_110 (by decide) rfl ?_
                  dsimp only [List.set]
                  refine ev_iincZ dX20_canGo_112 rfl (by decide) rfl ?_
                  dsimp only [List.set]
                  refine ev_goto (tgt := 26) dX20_canGo_115 (by decide) ?_
                  refine hK _ _ ⟨rfl, rfl, rfl, rfl, vz_eq ?_, rfl, rfl, vz_eq (by omega), trivial⟩ rfl
                  show _ = bI (gnI L k0 p x i && mtI L k0 p x i)
                  first | (rw [c47]; rfl) | (rw [show mtI L k0 p x i = true by (unfold mtI; rw [hL]; simp; omega), c47]; rfl) | (rw [show mtI L k0 p x i = false by (unfold mtI; rw [hL]; simp; omega), Bool.and_false]; rfl) | omega
                · refine ev_iconstZ dX20_canGo_88 ?_
                  refine ev_goto (tgt := 93) dX20_canGo_89 (by decide) ?_
                  refine ev_istore dX20_canGo_93 (by decide) rfl ?_
                  dsimp only [List.set]
                  refine ev_iload dX20_canGo_95 rfl ?_
                  refine ev_if_neZ (tgt := 109) dX20_canGo_97 (by decide) (by omega) (fun c97 => ?_) (fun c97 => by omega)
                  refine ev_iconstZ dX20_canGo_109 ?_
                  refine ev_istore dX20_canGo_110 (by decide) rfl ?_
                  dsimp only [List.set]
                  refine ev_iincZ dX20_canGo_112 rfl (by decide) rfl ?_
                  dsimp only [List.set]
                  refine ev_goto (tgt := 26) dX20_canGo_115 (by decide) ?_
                  refine hK _ _ ⟨rfl, rfl, rfl, rfl, vz_eq ?_, rfl, rfl, vz_eq (by omega), trivial⟩ rfl
                  show _ = bI (gnI L k0 p x i && mtI L k0 p x i)
                  first | (rw [c47]; rfl) | (rw [show mtI L k0 p x i = true by (unfold mtI; rw [hL]; simp; omega), c47]; rfl) | (rw [show mtI L k0 p x i = false by (unfold mtI; rw [hL]; simp; omega), Bool.and_false]; rfl) | omega
    · subst eh
      refine ev_iload dX20_canGo_26 rfl ?_
      refine ev_iload dX20_canGo_28 rfl ?_
      refine ev_icmp_geZ (tgt := 118) dX20_canGo_30 (by decide) (by omega) (by omega) (fun c30 => ?_) (fun c30 => by omega)
      refine ev_iload dX20_canGo_118 rfl ?_
      refine ev_zreturn dX20_canGo_120 rfl (by cases gnI L k0 p x 8 <;> rfl) ?_
      exact ⟨rfl, rfl⟩
/-- nobody is at x at the counts from k + 1 to n -/
def syN (L : PL) (x k : Nat) : Nat → Bool
  | 0 => true
  | n + 1 => syN L x k n && frP L (k + 1 + n) x
theorem syN_iff {L : PL} {x k : Nat} : ∀ n, syN L x k n = true ↔ ∀ j, k < j → j ≤ k + n → frP L j x = true := by
  intro n
  induction n with
  | zero => exact ⟨fun _ j h1 h2 => by omega, fun _ => rfl⟩
  | succ n ih =>
    show (syN L x k n && frP L (k + 1 + n) x) = true ↔ _
    rw [Bool.and_eq_true, ih]
    constructor
    · rintro ⟨a, b⟩ j h1 h2
      by_cases q : j = k + 1 + n
      · rw [q]; exact b
      · exact a j h1 (by omega)
    · intro a; exact ⟨fun j h1 h2 => a j h1 (by omega), a _ (by omega) (by omega)⟩
section
variable {Q : RS → HM → Prop} {pc : Nat} {ls : List (Option Value)} {st : List Value}
theorem ev_iandB {a b : Bool} (hd : decode M.2.1 pc = .ok (.iand, 1)) (kk : Ev g M d c k Q (pc + 1) ls (vz (bI (a && b)) :: st) h) : Ev g M d c k Q pc ls (vz (bI b) :: vz (bI a) :: st) h := by
  refine ev_iand hd ?_
  have e : zI (bI a) &&& zI (bI b) = zI (bI (a && b)) := by cases a <;> cases b <;> decide
  rw [e]; exact kk
theorem ev_iorB {a b : Bool} (hd : decode M.2.1 pc = .ok (.ior, 1)) (kk : Ev g M d c k Q (pc + 1) ls (vz (bI (a || b)) :: st) h) : Ev g M d c k Q pc ls (vz (bI b) :: vz (bI a) :: st) h := by
  refine ev_ior hd ?_
  have e : zI (bI a) ||| zI (bI b) = zI (bI (a || b)) := by cases a <;> cases b <;> decide
  rw [e]; exact kk
end
set_option maxRecDepth 100000 in
set_option maxHeartbeats 4000000 in
theorem k_canStay20 (K : PnC h o pa pl a L) {x k0 : Nat} (hk : k0 ≤ 20) (hx : x < 1000) (hfb : ∀ (e : Nat) (f : Nat → Nat) (k : Nat), e < 8 → L e = some f → k ≤ 20 → f k < 1000) : Kc g mX20_canStay (d + 1) (0) (0) [.ref o, vz ((x : Nat) : Int), vz ((k0 : Nat) : Int)] h (sR (some (vz (bI (syN L x k0 (20 - k0))))) h) := by
  refine Kc.of (ls := [some (.ref o), some (vz ((x : Nat) : Int)), some (vz ((k0 : Nat) : Int)), none, none]) (by decide +kernel) (Nat.le_of_ble_eq_true rfl) rfl ?_
  obtain ⟨K1, -⟩ := id K
  refine ev_iconstZ dX20_canStay_0 ?_
  refine ev_istore_n dX20_canStay_1 (by decide) rfl ?_
  dsimp only [List.set]
  refine ev_iload_n dX20_canStay_2 rfl ?_
  refine ev_iconstZ dX20_canStay_3 ?_
  refine ev_iaddZ dX20_canStay_4 ?_
  refine ev_istore dX20_canStay_5 (by decide) rfl ?_
  dsimp only [List.set]
  refine ev_for (st := []) (20 - k0) (fun i h1 => h1 = h) (fun i => [some (.ref o), some (vz ((x : Nat) : Int)), some (vz ((k0 : Nat) : Int)), some (vz (bI (syN L x k0 i))), some (vz (((k0 + 1 + i : Nat)) : Int))]) 0 (Nat.zero_le _) rfl ⟨rfl, rfl, rfl, rfl, vz_eq (by omega), trivial⟩ (fun i h1 _ hi eh hK => ?_) (fun h1 eh => ?_)
  · subst eh
    refine ev_iload dX20_canStay_7 rfl ?_
    refine ev_bipushZ dX20_canStay_9 rfl ?_
    refine ev_icmp_gtZ (tgt := 31) dX20_canStay_11 (by decide) (by omega) (by omega) (fun c11 => by omega) (fun c11 => ?_)
    refine ev_iload_n dX20_canStay_14 rfl ?_
    refine ev_aload_n dX20_canStay_15 rfl ?_
    refine ev_iload_n dX20_canStay_16 rfl ?_
    refine ev_iload_n dX20_canStay_17 rfl ?_
    refine ev_iload dX20_canStay_18 rfl ?_
    refine ev_to (b := ((k0 + i + 1 : Nat) : Int)) (by omega) ?_
    refine ev_callVE dX20_canStay_20 cv_X20_61_X20 ce_X20_canGo K1 rfl rfl rfl (k_canGo (d := 0) (p := ((x : Nat) : Int)) (x := ((x : Nat) : Int)) (k0 := k0 + i) K (by omega) (by omega) (by omega) hfb) (by omega) (Nat.le_of_ble_eq_true rfl) ?_
    rw [gnI_go, goP_self, show k0 + i + 1 = k0 + 1 + i by omega]
    refine ev_iandB dX20_canStay_23 ?_
    refine ev_istore_n dX20_canStay_24 (by decide) rfl ?_
    dsimp only [List.set]
    refine ev_iincZ dX20_canStay_25 rfl (by decide) rfl ?_
    dsimp only [List.set]
    refine ev_goto (tgt := 7) dX20_canStay_28 (by decide) ?_
    exact hK _ _ ⟨rfl, rfl, rfl, rfl, vz_eq (by omega), trivial⟩ rfl
  · subst eh
    refine ev_iload dX20_canStay_7 rfl ?_
    refine ev_bipushZ dX20_canStay_9 rfl ?_
    refine ev_icmp_gtZ (tgt := 31) dX20_canStay_11 (by decide) (by omega) (by omega) (fun c11 => ?_) (fun c11 => by omega)
    refine ev_iload_n dX20_canStay_31 rfl ?_
    refine ev_zreturn dX20_canStay_32 rfl (by cases syN L x k0 (20 - k0) <;> rfl) ?_
    exact ⟨rfl, rfl⟩
set_option maxRecDepth 100000 in
set_option maxHeartbeats 4000000 in
theorem k_end20 (K1 : h o = some (.inr (16, [.ref pa, .ref pl, .ref a]))) (H : DnC g I h a st fo D) {l : List Nd} {P : Pt} (hSI : Sub I h) (hp9 : D.2.2.2 = some l) (hP9 : P = mean l) {e : Nat} (he : e < 8) (hst : 0 ≤ D.2.1 e ∧ D.2.1 e < 100) (hco : 2 ≤ D.1.1 ∧ D.1.1 ≤ 9) (h99 : P.1.1 ≤ 99) (hn4 : ∀ e k, P.2.1 e k ≤ 4) (hon : 0 ≤ posR D P e P.1.1 ∧ 0 ≤ posC D P e P.1.1) : Kc g mX20_end 2 (0) (0) [.ref o, vz ((e : Nat) : Int)] h (sR (some (vz ((dnE D P e : Nat) : Int))) h) := by
  refine Kc.of (ls := [some (.ref o), some (vz ((e : Nat) : Int))]) (by decide +kernel) (Nat.le_of_ble_eq_true rfl) rfl ?_
  obtain ⟨A, B, pv, sv, K, hA, hB9, hV⟩ := id H
  obtain ⟨k1, k2, k3, k4, k5, k6, k7, k8⟩ := id K
  rw [hp9] at hV
  obtain ⟨p, sc, ss, cu, ru, rfl, rfl, hN, SA, SB, ⟨s1, s2, s3, s4, s5, s6, s7⟩, hSA, hSB⟩ := hV
  rw [← hP9] at s1
  replace s1 := hSI _ _ s1
  refine ev_aload_n dX20_end_0 rfl ?_
  refine ev_getf dX20_end_1 gf_X20_3_X20 K1 rfl ?_
  refine ev_getf dX20_end_4 gf_X20_28_X2 k1 rfl ?_
  refine ev_aload_n dX20_end_7 rfl ?_
  refine ev_getf dX20_end_8 gf_X20_3_X20 K1 rfl ?_
  refine ev_iload_n dX20_end_11 rfl ?_
  refine ev_aload_n dX20_end_12 rfl ?_
  refine ev_getf dX20_end_13 gf_X20_3_X20 K1 rfl ?_
  refine ev_getf dX20_end_16 gf_X20_34_X2 k1 rfl ?_
  refine ev_getf dX20_end_19 gf_X20_38_X5 s1 rfl ?_
  refine ev_iconstZ dX20_end_22 ?_
  refine ev_callVE dX20_end_23 cv_X20_43_X2 ce_X2_position k1 rfl rfl rfl (k_positionX2 hSI H hp9 hP9 (e := e) (n := P.1.1) (row := true) he hst hco ⟨Nat.le_refl _, h99⟩ hn4) (by omega) (Nat.le_of_ble_eq_true rfl) ?_
  refine ev_imulZ dX20_end_26 ?_
  refine ev_aload_n dX20_end_27 rfl ?_
  refine ev_getf dX20_end_28 gf_X20_3_X20 K1 rfl ?_
  refine ev_iload_n dX20_end_31 rfl ?_
  refine ev_aload_n dX20_end_32 rfl ?_
  refine ev_getf dX20_end_33 gf_X20_3_X20 K1 rfl ?_
  refine ev_getf dX20_end_36 gf_X20_34_X2 k1 rfl ?_
  refine ev_getf dX20_end_39 gf_X20_38_X5 s1 rfl ?_
  refine ev_iconstZ dX20_end_42 ?_
  refine ev_callVE dX20_end_43 cv_X20_43_X2 ce_X2_position k1 rfl rfl rfl (k_positionX2 hSI H hp9 hP9 (e := e) (n := P.1.1) (row := false) he hst hco ⟨Nat.le_refl _, h99⟩ hn4) (by omega) (Nat.le_of_ble_eq_true rfl) ?_
  refine ev_iaddZ dX20_end_46 ?_
  refine ev_ireturn dX20_end_47 rfl ?_
  refine ⟨congrArg Sum.inl (congrArg some (congrArg vz ?_)), rfl⟩
  rw [(posS_R (by omega)).1, (posS_R (by omega)).2]
  unfold dnE
  rw [Int.toNat_of_nonneg (Int.add_nonneg (Int.mul_nonneg (by omega) hon.1) hon.2)]
end W1S

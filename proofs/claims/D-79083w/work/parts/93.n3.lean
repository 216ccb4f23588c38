/-! THE COMPONENT: the length of a node (printed by gen) -/
section N3S
variable {g : GB} {M : MI} {d c k : Nat} {h : HM}
set_option maxRecDepth 100000 in
set_option maxHeartbeats 4000000 in
theorem k_lenC {a : Nat} : Kc g mX12_length d (0) (0) [.ref a] h (sR (some (vz ((0 : Nat) : Int))) h) := by
  refine Kc.of (ls := [some (.ref a)]) (by decide +kernel) (Nat.le_of_ble_eq_true rfl) rfl ?_
  refine ev_iconstZ dX12_length_0 ?_
  refine ev_ireturn dX12_length_1 rfl ?_
  exact ⟨rfl, rfl⟩
set_option maxRecDepth 100000 in
set_option maxHeartbeats 4000000 in
theorem k_lenP {a da st sv o m : Nat} {D : Nat → Int} {t : List Nat} (hG : GKx g) (ha : h a = some (.inr (9, [vz ((o : Nat) : Int), .ref da, .ref st]))) (hda : h da = some (.inl (0, (m, .inl (fun j => zI (D j)))))) (K : STh h st sv t) (hm : 1 ≤ m) (hd : 2 ≤ d) : Kc g mX13_length d (0) (0) [.ref a] h (sR (some (vz ((t.length + o * (m - 1) : Nat) : Int))) h) := by
  refine Kc.of (ls := [some (.ref a)]) (by decide +kernel) (Nat.le_of_ble_eq_true rfl) rfl ?_
  obtain ⟨A1, x1, y1, hst, hsv, hb1, hn1⟩ := id K
  refine ev_aload_n dX13_length_0 rfl ?_
  refine ev_getf dX13_length_1 gf_X13_15_X13 ha rfl ?_
  refine ev_callVE dX13_length_4 cv_X13_27_J7 ce_J7_length hst rfl rfl rfl (st_length K hG) (by omega) (Nat.le_of_ble_eq_true rfl) ?_
  refine ev_aload_n dX13_length_7 rfl ?_
  refine ev_getf dX13_length_8 gf_X13_9_X13 ha rfl ?_
  refine ev_aload_n dX13_length_11 rfl ?_
  refine ev_getf dX13_length_12 gf_X13_19_X13 ha rfl ?_
  refine ev_alenZ dX13_length_15 hda rfl ?_
  refine ev_iconstZ dX13_length_16 ?_
  refine ev_isubZ dX13_length_17 ?_
  refine ev_imulZ dX13_length_18 ?_
  refine ev_iaddZ dX13_length_19 ?_
  refine ev_ireturn dX13_length_20 rfl ?_
  have e : ((t.length : Nat) : Int) + ((o : Nat) : Int) * (((m : Nat) : Int) - 1) = ((t.length + o * (m - 1) : Nat) : Int) := by rw [show ((m : Nat) : Int) - 1 = ((m - 1 : Nat) : Int) by omega, Int.natCast_add, Int.natCast_mul]
  exact ⟨congrArg Sum.inl (vz_eq e), rfl⟩
set_option maxRecDepth 100000 in
set_option maxHeartbeats 4000000 in
theorem k_len9X10 {a p w D κ : Nat} {x : Value} (hG : GKx g) (ha : h a = some (.inr (7, [.ref p, x]))) (hk : ∃ fs, h p = some (.inr (nCi κ, fs))) (hK : Kc g (fam_length κ) D 0 0 [.ref p] h (sR (some (vz ((w : Nat) : Int))) h)) (hd : D + 1 ≤ d) : Kc g mX9_length d (0) (0) [.ref a] h (sR (some (vz ((w : Nat) : Int))) h) := by
  refine Kc.of (ls := [some (.ref a)]) (by decide +kernel) (Nat.le_of_ble_eq_true rfl) rfl ?_
  refine ev_aload_n dX9_length_0 rfl ?_
  refine ev_getf dX9_length_1 gf_X9_7_X10 ha rfl ?_
  refine ev_callNE dX9_length_4 (nv_X9_13 hG) fe_length (hk) rfl rfl (hK) (by omega) (Nat.le_of_ble_eq_true rfl) ?_
  refine ev_ireturn dX9_length_7 rfl ?_
  exact ⟨rfl, rfl⟩
set_option maxRecDepth 100000 in
set_option maxHeartbeats 4000000 in
theorem k_len9X14 {a p w D κ : Nat} (hG : GKx g) (ha : h a = some (.inr (10, [.ref p]))) (hk : ∃ fs, h p = some (.inr (nCi κ, fs))) (hK : Kc g (fam_length κ) D 0 0 [.ref p] h (sR (some (vz ((w : Nat) : Int))) h)) (hd : D + 1 ≤ d) : Kc g mX9_length d (0) (0) [.ref a] h (sR (some (vz ((w : Nat) : Int))) h) := by
  refine Kc.of (ls := [some (.ref a)]) (by decide +kernel) (Nat.le_of_ble_eq_true rfl) rfl ?_
  refine ev_aload_n dX9_length_0 rfl ?_
  refine ev_getf dX9_length_1 gf_X9_7_X14 ha rfl ?_
  refine ev_callNE dX9_length_4 (nv_X9_13 hG) fe_length (hk) rfl rfl (hK) (by omega) (Nat.le_of_ble_eq_true rfl) ?_
  refine ev_ireturn dX9_length_7 rfl ?_
  exact ⟨rfl, rfl⟩
set_option maxRecDepth 100000 in
set_option maxHeartbeats 4000000 in
theorem k_len9X15 {a p w D κ : Nat} (hG : GKx g) (ha : h a = some (.inr (11, [.ref p]))) (hk : ∃ fs, h p = some (.inr (nCi κ, fs))) (hK : Kc g (fam_length κ) D 0 0 [.ref p] h (sR (some (vz ((w : Nat) : Int))) h)) (hd : D + 1 ≤ d) : Kc g mX9_length d (0) (0) [.ref a] h (sR (some (vz ((w : Nat) : Int))) h) := by
  refine Kc.of (ls := [some (.ref a)]) (by decide +kernel) (Nat.le_of_ble_eq_true rfl) rfl ?_
  refine ev_aload_n dX9_length_0 rfl ?_
  refine ev_getf dX9_length_1 gf_X9_7_X15 ha rfl ?_
  refine ev_callNE dX9_length_4 (nv_X9_13 hG) fe_length (hk) rfl rfl (hK) (by omega) (Nat.le_of_ble_eq_true rfl) ?_
  refine ev_ireturn dX9_length_7 rfl ?_
  exact ⟨rfl, rfl⟩
set_option maxRecDepth 100000 in
set_option maxHeartbeats 4000000 in
theorem k_lenR {a p w D κ n : Nat} (hG : GKx g) (ha : h a = some (.inr (7, [.ref p, vz ((n : Nat) : Int)]))) (hk : ∃ fs, h p = some (.inr (nCi κ, fs))) (hK : Kc g (fam_length κ) D 0 0 [.ref p] h (sR (some (vz ((w : Nat) : Int))) h)) (hd : D + 2 ≤ d) : Kc g mX10_length d (0) (0) [.ref a] h (sR (some (vz ((n * w : Nat) : Int))) h) := by
  refine Kc.of (ls := [some (.ref a)]) (by decide +kernel) (Nat.le_of_ble_eq_true rfl) rfl ?_
  refine ev_aload_n dX10_length_0 rfl ?_
  refine ev_getf dX10_length_1 gf_X10_7_X10 ha rfl ?_
  refine ev_aload_n dX10_length_4 rfl ?_
  refine ev_callVE dX10_length_5 cu_X10_13 ce_X9_length ha rfl rfl rfl (k_len9X10 (d := D + 1) hG ha hk hK (Nat.le_refl _)) (by omega) (Nat.le_of_ble_eq_true rfl) ?_
  refine ev_imulZ dX10_length_8 ?_
  refine ev_ireturn dX10_length_9 rfl ?_
  exact ⟨congrArg Sum.inl (vz_eq (Int.natCast_mul n w).symm), rfl⟩
def lenF (b : Bool) (x y : Nat) : Nat := if b then max x y else x + y
theorem lenF_lt {ws : List Nat} (hw : ∀ w ∈ ws, w < 1000) : ∀ (z : Nat), z < 1000 → ws.foldl (lenF true) z < 1000 := by
  induction ws with
  | nil => intro z hz; exact hz
  | cons w t ih => intro z hz; exact ih (fun x hx => hw x (List.mem_cons_of_mem _ hx)) _ (by have := hw w List.mem_cons_self; show (if true then max z w else z + w) < 1000; rw [if_pos rfl]; omega)
set_option maxRecDepth 100000 in
set_option maxHeartbeats 4000000 in
theorem k_lenV {a pl v cap D : Nat} {z mc : Int} {b : Bool} {f : Nat → Option Nat} {as ws : List Nat} (hG : GKx g) (ha : h a = some (.inr (12, [vz z, .ref pl]))) (hz : z = if b then 1 else 0) (hpl : h pl = some (.inr (29, [vz mc, .ref v, vz ((as.length : Nat) : Int)]))) (hv : h v = some (.inl (9, (cap, .inr (.inr (.inr (.inr (f)))))))) (hf : ∀ i : Nat, i < as.length → f i = as[i]?) (hcap : as.length ≤ cap) (hP : Prs g fam_length h D as ws) (hl : as.length < 1000000) (hb : b = true → ∀ w ∈ ws, w < 1000) (hd : 4 ≤ d ∧ D + 1 ≤ d) : Kc g mX16_length d (0) (0) [.ref a] h (sR (some (vz ((ws.foldl (lenF b) 0 : Nat) : Int))) h) := by
  refine Kc.of (ls := [some (.ref a), none, none, none]) (by decide +kernel) (Nat.le_of_ble_eq_true rfl) rfl ?_
  have hwl := hP.1
  refine ev_iconstZ dX16_length_0 ?_
  refine ev_istore_n dX16_length_1 (by decide) rfl ?_
  dsimp only [List.set]
  refine ev_iconstZ dX16_length_2 ?_
  refine ev_istore_n dX16_length_3 (by decide) rfl ?_
  dsimp only [List.set]
  refine ev_for (st := []) ws.length (fun i h1 => h1 = h) (fun i => [some (.ref a), some (vz (((ws.take i).foldl (lenF b) 0 : Nat) : Int)), some (vz ((i : Nat) : Int)), none]) 0 (Nat.zero_le _) rfl ⟨rfl, rfl, rfl, trivial⟩ (fun i h1 _ hi eh hK => ?_) (fun h1 eh => ?_)
  · subst eh
    obtain ⟨w, hw⟩ : ∃ w, ws[i]? = some w := ⟨_, List.getElem?_eq_getElem hi⟩
    obtain ⟨q, hq⟩ : ∃ q, as[i]? = some q := ⟨_, List.getElem?_eq_getElem (by omega)⟩
    obtain ⟨κ, hk, hK2⟩ := hP.2 i q w hq hw
    refine ev_iload_n dX16_length_4 rfl ?_
    refine ev_aload_n dX16_length_5 rfl ?_
    refine ev_getf dX16_length_6 gf_X16_15_X16 ha rfl ?_
    refine ev_callVE dX16_length_9 cv_X16_19_J26 ce_J26_size hpl rfl rfl rfl (al_size hpl) (by omega) (Nat.le_of_ble_eq_true rfl) ?_
    refine ev_icmp_geZ (tgt := 58) dX16_length_12 (by decide) (by omega) (by omega) (fun c12 => by omega) (fun c12 => ?_)
    refine ev_aload_n dX16_length_15 rfl ?_
    refine ev_getf dX16_length_16 gf_X16_15_X16 ha rfl ?_
    refine ev_iload_n dX16_length_19 rfl ?_
    refine ev_callVE dX16_length_20 cv_X16_25_J26 ce_J26_get hpl rfl rfl rfl (al_get hpl hv (by omega) (by omega) (by rw [Int.toNat_natCast, hf i (by omega), hq])) (by omega) (Nat.le_of_ble_eq_true rfl) ?_
    refine ev_castN dX16_length_23 q908 hk ?_
    refine ev_astore_n dX16_length_26 (by decide) rfl ?_
    dsimp only [List.set]
    refine ev_aload_n dX16_length_27 rfl ?_
    refine ev_getf dX16_length_28 gf_X16_9_X16 ha rfl ?_
    refine ev_if_eqZ (tgt := 45) dX16_length_31 (by decide) (by rw [hz]; cases b <;> decide) (fun c31 => ?_) (fun c31 => ?_)
    · have hbf : b = false := by cases b with | false => rfl | true => rw [hz] at c31; exact absurd c31 (by decide)
      subst hbf
      refine ev_iload_n dX16_length_45 rfl ?_
      refine ev_aload_n dX16_length_46 rfl ?_
      refine ev_callNE dX16_length_47 (nv_X16_32 hG) fe_length (hk) rfl rfl (hK2) (by omega) (Nat.le_of_ble_eq_true rfl) ?_
      refine ev_iaddZ dX16_length_50 ?_
      refine ev_istore_n dX16_length_51 (by decide) rfl ?_
      dsimp only [List.set]
      refine ev_iincZ dX16_length_52 rfl (by decide) rfl ?_
      dsimp only [List.set]
      refine ev_goto (tgt := 4) dX16_length_55 (by decide) ?_
      refine hK _ _ ⟨rfl, vz_eq ?_, vz_eq (by omega), trivial⟩ rfl
      rw [fold_take hw]
      rfl
    · have hbt : b = true := by cases b with | true => rfl | false => rw [hz] at c31; exact absurd rfl c31
      subst hbt
      have hb1 : (ws.take i).foldl (lenF true) 0 < 1000 := lenF_lt (fun x hx => hb rfl x (List.mem_of_mem_take hx)) 0 (by decide)
      have hb2 : w < 1000 := hb rfl w (List.mem_of_getElem? hw)
      refine ev_iload_n dX16_length_34 rfl ?_
      refine ev_aload_n dX16_length_35 rfl ?_
      refine ev_callNE dX16_length_36 (nv_X16_32 hG) fe_length (hk) rfl rfl (hK2) (by omega) (Nat.le_of_ble_eq_true rfl) ?_
      refine ev_mmaxN (a := (ws.take i).foldl (lenF true) 0) (b := w) dX16_length_39 q1135 (by omega) (by omega) (by omega) (Nat.le_of_ble_eq_true rfl) ?_
      refine ev_goto (tgt := 51) dX16_length_42 (by decide) ?_
      refine ev_istore_n dX16_length_51 (by decide) rfl ?_
      dsimp only [List.set]
      refine ev_iincZ dX16_length_52 rfl (by decide) rfl ?_
      dsimp only [List.set]
      refine ev_goto (tgt := 4) dX16_length_55 (by decide) ?_
      refine hK _ _ ⟨rfl, vz_eq ?_, vz_eq (by omega), trivial⟩ rfl
      rw [fold_take hw]
      rfl
  · subst eh
    simp only [List.take_length]
    refine ev_iload_n dX16_length_4 rfl ?_
    refine ev_aload_n dX16_length_5 rfl ?_
    refine ev_getf dX16_length_6 gf_X16_15_X16 ha rfl ?_
    refine ev_callVE dX16_length_9 cv_X16_19_J26 ce_J26_size hpl rfl rfl rfl (al_size hpl) (by omega) (Nat.le_of_ble_eq_true rfl) ?_
    refine ev_icmp_geZ (tgt := 58) dX16_length_12 (by decide) (by omega) (by omega) (fun c12 => ?_) (fun c12 => by omega)
    refine ev_iload_n dX16_length_58 rfl ?_
    refine ev_ireturn dX16_length_59 rfl ?_
    exact ⟨rfl, rfl⟩
end N3S

/-! THE COMPONENT: equals, indexOf (printed by gen) -/
section K2S
variable {g : GB} {M : MI} {d c k : Nat} {h : HM}
section
variable {Q : RS → HM → Prop} {pc : Nat} {ls : List (Option Value)} {st : List Value}
theorem ev_instYZ {idx a ci N : Nat} {C nm : String} {T : u_T} {fs : List Value} (hd : decode M.2.1 pc = .ok (.instanceof idx, 3)) (hw : (Jvm.Cond.classLink M.1.cls idx nm) ∈ lw_all) (hb : h a = some (.inr (ci, fs))) (hci : clG[ci]? = some (C, T, N)) (hc : C = nm) (kk : Ev g M d c k Q (pc + 3) ls (vz 1 :: st) h) : Ev g M d c k Q pc ls (.ref a :: st) h := ev_instY hd hw hb hci hc kk
theorem ev_instNZ {idx a ci N i : Nat} {C nm : String} {T : u_T} {fs : List Value} (hG : GKx g) (hd : decode M.2.1 pc = .ok (.instanceof idx, 3)) (hw : (Jvm.Cond.classLink M.1.cls idx nm) ∈ lw_all) (hb : h a = some (.inr (ci, fs))) (hci : clG[ci]? = some (C, T, N)) (hi : ncL[i]? = some (C, nm)) (kk : Ev g M d c k Q (pc + 3) ls (vz 0 :: st) h) : Ev g M d c k Q pc ls (.ref a :: st) h := ev_instN hG hd hw hb hci hi kk
end
theorem STh.eq {a v w : Nat} {t1 t2 : List Nat} (K1 : STh h a v t1) (K2 : STh h a w t2) : t1 = t2 := by
  obtain ⟨A1, x1, y1, ha1, hv1, hb1, hn1⟩ := K1
  obtain ⟨A2, x2, y2, ha2, hv2, hb2, hn2⟩ := K2
  rw [ha1] at ha2
  simp only [Option.some.injEq, Sum.inr.injEq, Prod.mk.injEq, List.cons.injEq, Value.ref.injEq] at ha2
  obtain rfl := ha2.2.1
  rw [hv1] at hv2
  simp only [Option.some.injEq, Sum.inl.injEq, Prod.mk.injEq] at hv2
  obtain ⟨-, hl, hf⟩ := hv2
  refine bt_ext hb1 hb2 hl (fun j hj => ?_)
  have e := congrFun hf j
  have p1 := hb1.1 j hj
  have p2 := hb2.1 j (by omega)
  exact (zI_eq (by omega) (by omega)).mp e
set_option maxRecDepth 100000 in
set_option maxHeartbeats 4000000 in
theorem st_equals {a b v w : Nat} {t1 t2 : List Nat} (hG : GKx g) (K1 : STh h a v t1) (K2 : STh h b w t2) : Kc g mJ7_equals 2 (0) (0) [.ref a, .ref b] h (sR (some (vz (if t1 = t2 then 1 else 0))) h) := by
  refine Kc.of (ls := [some (.ref a), some (.ref b), none]) (by decide +kernel) (Nat.le_of_ble_eq_true rfl) rfl ?_
  obtain ⟨A1, x1, y1, ha1, hv1, hb1, hn1⟩ := id K1
  obtain ⟨A2, x2, y2, ha2, hv2, hb2, hn2⟩ := id K2
  refine ev_aload_n dJ7_equals_0 rfl ?_
  refine ev_aload_n dJ7_equals_1 rfl ?_
  refine ev_acmp_ne (rx := (some (a))) (ry := (some (b))) (tgt := 7) dJ7_equals_2 (by decide) (fun c2 => ?_) (fun c2 => ?_)
  · refine ev_aload_n dJ7_equals_7 rfl ?_
    refine ev_instYZ dJ7_equals_8 q1327 ha2 rfl rfl ?_
    refine ev_if_eqZ (tgt := 54) dJ7_equals_11 (by decide) (by omega) (fun c11 => by omega) (fun c11 => ?_)
    refine ev_aload_n dJ7_equals_14 rfl ?_
    refine ev_castY dJ7_equals_15 q1327 ha2 rfl (Or.inl rfl) ?_
    refine ev_astore_n dJ7_equals_18 (by decide) rfl ?_
    dsimp only [List.set]
    refine ev_gets (i := 4) hG dJ7_equals_19 rfl q517 ?_
    refine ev_nm (fun y ey => ?_)
    rw [show y = vz 1 from ey]
    refine ev_if_eqZ (tgt := 36) dJ7_equals_22 (by decide) (by omega) (fun c22 => by omega) (fun c22 => ?_)
    refine ev_aload_n dJ7_equals_25 rfl ?_
    refine ev_getf dJ7_equals_26 gf_J7_15_J7 ha1 rfl ?_
    refine ev_aload_n dJ7_equals_29 rfl ?_
    refine ev_getf dJ7_equals_30 gf_J7_15_J7 ha2 rfl ?_
    refine ev_icmp_neZ (tgt := 54) dJ7_equals_33 (by decide) (by omega) (by omega) (fun c33 => absurd rfl c33) (fun c33 => ?_)
    refine ev_aload_n dJ7_equals_36 rfl ?_
    refine ev_getf dJ7_equals_37 gf_J7_9_J7 ha1 rfl ?_
    refine ev_aload_n dJ7_equals_40 rfl ?_
    refine ev_getf dJ7_equals_41 gf_J7_9_J7 ha2 rfl ?_
    refine ev_callSE dJ7_equals_44 cs_J7_541 ce_J23_equals rfl rfl (k_l1eq hv1 hv2 hb1 hb2 ⟨hn1, hn2⟩) (by omega) (Nat.le_of_ble_eq_true rfl) ?_
    refine ev_if_eqZ (tgt := 54) dJ7_equals_47 (by decide) (by split <;> omega) (fun c47 => ?_) (fun c47 => ?_)
    · refine ev_iconstZ dJ7_equals_54 ?_
      refine ev_zreturn dJ7_equals_55 rfl rfl ?_
      exact ⟨congrArg Sum.inl (vz_eq (by first | rw [if_pos e12] | (by_cases q : t1 = t2 <;> simp_all))), rfl⟩
    · refine ev_iconstZ dJ7_equals_50 ?_
      refine ev_goto (tgt := 55) dJ7_equals_51 (by decide) ?_
      refine ev_zreturn dJ7_equals_55 rfl rfl ?_
      exact ⟨congrArg Sum.inl (vz_eq (by first | rw [if_pos e12] | (by_cases q : t1 = t2 <;> simp_all))), rfl⟩
  · have eab : a = b := by simpa using c2
    subst eab
    have e12 := K1.eq K2
    refine ev_iconstZ dJ7_equals_5 ?_
    refine ev_zreturn dJ7_equals_6 rfl rfl ?_
    exact ⟨congrArg Sum.inl (vz_eq (by first | rw [if_pos e12] | (by_cases q : t1 = t2 <;> simp_all))), rfl⟩
/-- the first place of x, or -1 -/
def idxO (t : List Nat) (x : Nat) : Int := match t.findIdx? (fun y => y == x) with
  | some i => (i : Int)
  | none => -1
theorem idxO_some {t : List Nat} {x i : Nat} (hi : t[i]? = some x) (hj : ∀ j : Nat, j < i → t[j]? ≠ some x) : idxO t x = (i : Int) := by
  obtain ⟨hl, hx⟩ := List.getElem?_eq_some_iff.mp hi
  have e : t.findIdx? (fun y => y == x) = some i := by
    rw [List.findIdx?_eq_some_iff_getElem]
    refine ⟨hl, by rw [hx]; simp, fun j hji => ?_⟩
    have h1 := hj j hji
    rw [List.getElem?_eq_getElem (by omega)] at h1
    simp only [Bool.not_eq_true, beq_eq_false_iff_ne]
    exact fun c => h1 (by rw [c])
  unfold idxO
  rw [e]
theorem idxO_none {t : List Nat} {x : Nat} (hj : ∀ j : Nat, j < t.length → t[j]? ≠ some x) : idxO t x = -1 := by
  have e : t.findIdx? (fun y => y == x) = none := by
    rw [List.findIdx?_eq_none_iff]
    intro y hy
    obtain ⟨j, hl, rfl⟩ := List.mem_iff_getElem.mp hy
    have h1 := hj j hl
    rw [List.getElem?_eq_getElem hl] at h1
    simp only [beq_eq_false_iff_ne]
    exact fun c => h1 (by rw [c])
  unfold idxO
  rw [e]
theorem idxO_mem {t : List Nat} {x : Nat} : 0 ≤ idxO t x ↔ x ∈ t := by
  unfold idxO
  cases e : t.findIdx? (fun y => y == x) with
  | some i =>
    rw [List.findIdx?_eq_some_iff_getElem] at e
    obtain ⟨hl, hx, -⟩ := e
    have hx' : t[i] = x := by simpa using hx
    exact ⟨fun _ => hx' ▸ List.getElem_mem hl, fun _ => Int.natCast_nonneg i⟩
  | none =>
    rw [List.findIdx?_eq_none_iff] at e
    refine ⟨fun c => absurd c (by decide), fun hm => ?_⟩
    have := e x hm
    simp at this
theorem idxO_b {t : List Nat} {x : Nat} : -1 ≤ idxO t x ∧ idxO t x < t.length + 1 := by
  unfold idxO
  cases e : t.findIdx? (fun y => y == x) with
  | some i =>
    rw [List.findIdx?_eq_some_iff_getElem] at e
    obtain ⟨hl, -⟩ := e
    show -1 ≤ (i : Int) ∧ (i : Int) < _
    omega
  | none => show -1 ≤ (-1 : Int) ∧ (-1 : Int) < _; omega
set_option maxRecDepth 100000 in
set_option maxHeartbeats 4000000 in
theorem k_idxChar {v x : Nat} {t : List Nat} {A : Nat → Int} (hv : h v = some (.inl (2, (t.length, .inl (fun j => zI (A j)))))) (hb : btA A t.length t) (hx : x < 128) (hn : t.length < 1000000) : Kc g mJ23_indexOfChar 0 (0) (0) [.ref v, vz (x : Nat), vz 0, vz (t.length : Nat)] h (sR (some (vz (idxO t x))) h) := by
  refine Kc.of (ls := [some (.ref v), some (vz (x : Nat)), some (vz 0), some (vz (t.length : Nat)), none, none]) (by decide +kernel) (Nat.le_of_ble_eq_true rfl) rfl ?_
  refine ev_iload_n dJ23_indexOfChar_0 rfl ?_
  refine ev_i2bZ dJ23_indexOfChar_1 (by omega) ?_
  refine ev_istore dJ23_indexOfChar_2 (by decide) rfl ?_
  dsimp only [List.set]
  refine ev_iload_n dJ23_indexOfChar_4 rfl ?_
  refine ev_istore dJ23_indexOfChar_5 (by decide) rfl ?_
  dsimp only [List.set]
  refine ev_for (st := []) t.length (fun i h1 => h1 = h ∧ ∀ j : Nat, j < i → t[j]? ≠ some x) (fun i => [some (.ref v), some (vz (x : Nat)), some (vz 0), some (vz (t.length : Nat)), some (vz (x : Nat)), some (vz (i : Nat))]) 0 (Nat.zero_le _) ⟨rfl, fun j hj => by omega⟩ ⟨rfl, rfl, rfl, rfl, rfl, rfl, trivial⟩ (fun i h1 _ hi ⟨eh, hP⟩ hK => ?_) (fun h1 ⟨eh, hP⟩ => ?_)
  · subst eh
    have q1 := hb.1 i hi
    refine ev_iload dJ23_indexOfChar_7 rfl ?_
    refine ev_iload_n dJ23_indexOfChar_9 rfl ?_
    refine ev_icmp_geZ (tgt := 31) dJ23_indexOfChar_10 (by decide) (by omega) (by omega) (fun c10 => by omega) (fun c10 => ?_)
    refine ev_aload_n dJ23_indexOfChar_13 rfl ?_
    refine ev_iload dJ23_indexOfChar_14 rfl ?_
    refine ev_baldY dJ23_indexOfChar_16 hv (by omega) ?_
    refine ev_iload dJ23_indexOfChar_17 rfl ?_
    refine ev_icmp_neZ (tgt := 25) dJ23_indexOfChar_19 (by decide) (by simp only [Int.toNat_natCast]; omega) (by omega) (fun c19 => ?_) (fun c19 => ?_)
    · simp only [Int.toNat_natCast] at c19
      refine ev_iincZ dJ23_indexOfChar_25 rfl (by decide) rfl ?_
      dsimp only [List.set]
      refine ev_goto (tgt := 7) dJ23_indexOfChar_28 (by decide) ?_
      refine hK _ _ (by repeat' first | exact rfl | exact trivial | exact vz_eq (by omega) | refine And.intro ?_ ?_) ⟨rfl, fun j hj => ?_⟩
      by_cases cj : j = i
      · subst cj; exact fun c => c19 (hb.2.1 _ _ c)
      · exact hP j (by omega)
    · simp only [Int.toNat_natCast] at c19
      refine ev_iload dJ23_indexOfChar_22 rfl ?_
      refine ev_ireturn dJ23_indexOfChar_24 rfl ?_
      have ex : t[i]? = some x := by rw [List.getElem?_eq_getElem hi]; have e2 := hb.2.1 i _ (List.getElem?_eq_getElem hi); rw [c19] at e2; congr 1; omega
      exact ⟨congrArg Sum.inl (vz_eq (idxO_some ex hP).symm), rfl⟩
  · subst eh
    refine ev_iload dJ23_indexOfChar_7 rfl ?_
    refine ev_iload_n dJ23_indexOfChar_9 rfl ?_
    refine ev_icmp_geZ (tgt := 31) dJ23_indexOfChar_10 (by decide) (by omega) (by omega) (fun c10 => ?_) (fun c10 => by omega)
    refine ev_iconstZ dJ23_indexOfChar_31 ?_
    refine ev_ireturn dJ23_indexOfChar_32 rfl ?_
    exact ⟨congrArg Sum.inl (vz_eq (idxO_none hP).symm), rfl⟩
set_option maxRecDepth 100000 in
set_option maxHeartbeats 4000000 in
theorem k_canEnc2 {x : Nat} (hx : x < 128) : Kc g mJ23_canEncode_2 0 (0) (0) [vz (x : Nat)] h (sR (some (vz 1)) h) := by
  refine Kc.of (ls := [some (vz (x : Nat))]) (by decide +kernel) (Nat.le_of_ble_eq_true rfl) rfl ?_
  refine ev_iload_n dJ23_canEncode_2_0 rfl ?_
  refine ev_if_ltZ (tgt := 15) dJ23_canEncode_2_1 (by decide) (by omega) (fun c1 => by omega) (fun c1 => ?_)
  refine ev_iload_n dJ23_canEncode_2_4 rfl ?_
  refine ev_sipushZ dJ23_canEncode_2_5 rfl ?_
  refine ev_icmp_gtZ (tgt := 15) dJ23_canEncode_2_8 (by decide) (by omega) (by omega) (fun c8 => by omega) (fun c8 => ?_)
  refine ev_iconstZ dJ23_canEncode_2_11 ?_
  refine ev_goto (tgt := 16) dJ23_canEncode_2_12 (by decide) ?_
  refine ev_zreturn dJ23_canEncode_2_16 rfl rfl ?_
  exact ⟨rfl, rfl⟩
set_option maxRecDepth 100000 in
set_option maxHeartbeats 4000000 in
theorem k_l1idx {v x : Nat} {t : List Nat} {A : Nat → Int} (hv : h v = some (.inl (2, (t.length, .inl (fun j => zI (A j)))))) (hb : btA A t.length t) (hx : x < 128) (hn : t.length < 1000000) : Kc g mJ23_indexOf 1 (0) (0) [.ref v, vz (x : Nat), vz 0, vz (t.length : Nat)] h (sR (some (vz (idxO t x))) h) := by
  refine Kc.of (ls := [some (.ref v), some (vz (x : Nat)), some (vz 0), some (vz (t.length : Nat))]) (by decide +kernel) (Nat.le_of_ble_eq_true rfl) rfl ?_
  refine ev_iload_n dJ23_indexOf_0 rfl ?_
  refine ev_callSE dJ23_indexOf_1 cs_J23_88 ce_J23_canEncode_2 rfl rfl (k_canEnc2 hx) (by omega) (Nat.le_of_ble_eq_true rfl) ?_
  refine ev_if_neZ (tgt := 9) dJ23_indexOf_4 (by decide) (by omega) (fun c4 => ?_) (fun c4 => by omega)
  refine ev_iload_n dJ23_indexOf_9 rfl ?_
  refine ev_iconstZ dJ23_indexOf_10 ?_
  refine ev_mmaxZ dJ23_indexOf_11 q1793 (by omega) (by omega) (by omega) (Nat.le_of_ble_eq_true rfl) ?_
  refine ev_to (b := 0) (by omega) ?_
  refine ev_istore_n dJ23_indexOf_14 (by decide) rfl ?_
  dsimp only [List.set]
  refine ev_iload_n dJ23_indexOf_15 rfl ?_
  refine ev_aload_n dJ23_indexOf_16 rfl ?_
  refine ev_alenZ dJ23_indexOf_17 hv rfl ?_
  refine ev_mminZ dJ23_indexOf_18 q1794 (by omega) (by omega) (by omega) (Nat.le_of_ble_eq_true rfl) ?_
  refine ev_to (b := (t.length : Int)) (by omega) ?_
  refine ev_istore_n dJ23_indexOf_21 (by decide) rfl ?_
  dsimp only [List.set]
  refine ev_iload_n dJ23_indexOf_22 rfl ?_
  refine ev_iload_n dJ23_indexOf_23 rfl ?_
  refine ev_icmp_ltZ (tgt := 29) dJ23_indexOf_24 (by decide) (by omega) (by omega) (fun c24 => ?_) (fun c24 => ?_)
  · refine ev_aload_n dJ23_indexOf_29 rfl ?_
    refine ev_iload_n dJ23_indexOf_30 rfl ?_
    refine ev_iload_n dJ23_indexOf_31 rfl ?_
    refine ev_iload_n dJ23_indexOf_32 rfl ?_
    refine ev_callSE dJ23_indexOf_33 cs_J23_95 ce_J23_indexOfChar rfl rfl (k_idxChar hv hb hx hn) (by omega) (Nat.le_of_ble_eq_true rfl) ?_
    refine ev_ireturn dJ23_indexOf_36 rfl ?_
    exact ⟨rfl, rfl⟩
  · have h0 : t.length = 0 := by omega
    have e0 : idxO t x = -1 := idxO_none (fun j hj => by omega)
    rw [e0]
    refine ev_iconstZ dJ23_indexOf_27 ?_
    refine ev_ireturn dJ23_indexOf_28 rfl ?_
    exact ⟨rfl, rfl⟩
set_option maxRecDepth 100000 in
set_option maxHeartbeats 4000000 in
theorem st_indexOf2 {a v x : Nat} {t : List Nat} (hG : GKx g) (K1 : STh h a v t) (hx : x < 128) : Kc g mJ7_indexOf_2 2 (0) (0) [.ref a, vz (x : Nat), vz 0] h (sR (some (vz (idxO t x))) h) := by
  refine Kc.of (ls := [some (.ref a), some (vz (x : Nat)), some (vz 0)]) (by decide +kernel) (Nat.le_of_ble_eq_true rfl) rfl ?_
  obtain ⟨A1, x1, y1, ha1, hv1, hb1, hn1⟩ := id K1
  refine ev_aload_n dJ7_indexOf_2_0 rfl ?_
  refine ev_callVE dJ7_indexOf_2_1 cv_J7_492_J7 ce_J7_isLatin1 ha1 rfl rfl rfl (st_isLatin1 K1 hG) (by omega) (Nat.le_of_ble_eq_true rfl) ?_
  refine ev_if_eqZ (tgt := 23) dJ7_indexOf_2_4 (by decide) (by omega) (fun c4 => by omega) (fun c4 => ?_)
  refine ev_aload_n dJ7_indexOf_2_7 rfl ?_
  refine ev_getf dJ7_indexOf_2_8 gf_J7_9_J7 ha1 rfl ?_
  refine ev_iload_n dJ7_indexOf_2_11 rfl ?_
  refine ev_iload_n dJ7_indexOf_2_12 rfl ?_
  refine ev_aload_n dJ7_indexOf_2_13 rfl ?_
  refine ev_callVE dJ7_indexOf_2_14 cv_J7_505_J7 ce_J7_length ha1 rfl rfl rfl (st_length K1 hG) (by omega) (Nat.le_of_ble_eq_true rfl) ?_
  refine ev_callSE dJ7_indexOf_2_17 cs_J7_637 ce_J23_indexOf rfl rfl (k_l1idx hv1 hb1 hx hn1) (by omega) (Nat.le_of_ble_eq_true rfl) ?_
  refine ev_goto (tgt := 36) dJ7_indexOf_2_20 (by decide) ?_
  refine ev_ireturn dJ7_indexOf_2_36 rfl ?_
  exact ⟨rfl, rfl⟩
set_option maxRecDepth 100000 in
set_option maxHeartbeats 4000000 in
theorem st_indexOf {a v x : Nat} {t : List Nat} (hG : GKx g) (K1 : STh h a v t) (hx : x < 128) : Kc g mJ7_indexOf 3 (0) (0) [.ref a, vz (x : Nat)] h (sR (some (vz (idxO t x))) h) := by
  refine Kc.of (ls := [some (.ref a), some (vz (x : Nat))]) (by decide +kernel) (Nat.le_of_ble_eq_true rfl) rfl ?_
  obtain ⟨A1, x1, y1, ha1, hv1, hb1, hn1⟩ := id K1
  refine ev_aload_n dJ7_indexOf_0 rfl ?_
  refine ev_iload_n dJ7_indexOf_1 rfl ?_
  refine ev_iconstZ dJ7_indexOf_2 ?_
  refine ev_callVE dJ7_indexOf_3 cv_J7_633_J7 ce_J7_indexOf_2 ha1 rfl rfl rfl (st_indexOf2 hG K1 hx) (by omega) (Nat.le_of_ble_eq_true rfl) ?_
  refine ev_ireturn dJ7_indexOf_6 rfl ?_
  exact ⟨rfl, rfl⟩
set_option maxRecDepth 100000 in
set_option maxHeartbeats 4000000 in
theorem st_toString {a v : Nat} {t : List Nat} (K1 : STh h a v t) : Kc g mJ7_toString 0 (0) (0) [.ref a] h (sR (some (.ref a)) h) := by
  refine Kc.of (ls := [some (.ref a)]) (by decide +kernel) (Nat.le_of_ble_eq_true rfl) rfl ?_
  obtain ⟨A1, x1, y1, ha1, hv1, hb1, hn1⟩ := id K1
  refine ev_aload_n dJ7_toString_0 rfl ?_
  refine ev_areturn dJ7_toString_1 rfl (Or.inl ⟨_, rfl⟩) (Or.inr ⟨_, rfl⟩) ?_
  exact ⟨rfl, rfl⟩
end K2S

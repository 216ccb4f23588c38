/-! THE COMPONENT: LinkedList (printed by gen) -/
section J4S
variable {g : GB} {M : MI} {d c k : Nat} {h : HM}
/-- a list's node: its element, the next one, the one before -/
abbrev lnC (x : Nat) (n pv : Option Nat) : MO := .inr (27, [.ref x, va_rf n, va_rf pv])
def pvO (L : List (Nat × Nat)) : Nat → Option Nat
  | 0 => none
  | i + 1 => (L[i]?).map Prod.fst
def LL (h : HM) (L : List (Nat × Nat)) : Prop := ∀ (i p x : Nat), L[i]? = some (p, x) → h p = some (lnC x ((L[i + 1]?).map Prod.fst) (pvO L i))
def llC (mc n : Int) (f l : Option Nat) : MO := .inr (17, [vz mc, vz n, va_rf f, va_rf l])
/-- the linked list a: nodes and elements L -/
def LLh (g : GB) (h : HM) (a : Nat) (mc : Int) (L : List (Nat × Nat)) : Prop :=
  h a = some (llC mc (L.length : Nat) (L.head?.map Prod.fst) (L.getLast?.map Prod.fst)) ∧ gB g ≤ a ∧ LL h L ∧ (L.map Prod.fst).Nodup ∧ ∀ p ∈ L.map Prod.fst, gB g ≤ p
theorem LL.mem {L : List (Nat × Nat)} (H : LL h L) {p : Nat} (hp : p ∈ L.map Prod.fst) : ∃ x n pv, h p = some (lnC x n pv) := by
  obtain ⟨⟨p', x⟩, hm, rfl⟩ := List.mem_map.mp hp
  obtain ⟨i, hi⟩ := List.getElem?_of_mem hm
  exact ⟨_, _, _, H i _ _ hi⟩
theorem LL.at {L : List (Nat × Nat)} {i p x : Nat} (hi : L[i]? = some (p, x)) : p ∈ L.map Prod.fst := List.mem_map.mpr ⟨(p, x), List.mem_of_getElem? hi, rfl⟩
theorem LL.na {L : List (Nat × Nat)} (H : LL h L) {a : Nat} {mc n : Int} {f l : Option Nat} (ha : h a = some (llC mc n f l)) : a ∉ L.map Prod.fst := by
  intro hp
  obtain ⟨x, n, pv, e⟩ := H.mem hp
  rw [ha] at e
  simp [llC, lnC] at e
theorem LLh.fr {h' : HM} {S : List Nat} {a : Nat} {mc : Int} {L : List (Nat × Nat)} (H : LLh g h a mc L) (f : Fr g h h' S) (hS : ∀ x ∈ S, x ≠ a ∧ x ∉ L.map Prod.fst) : LLh g h' a mc L :=
  ⟨f.keep H.1 (fun c => (hS a c).1 rfl), H.2.1, fun i p x hi => f.keep (H.2.2.1 i p x hi) (fun c => (hS p c).2 (LL.at hi)), H.2.2.2⟩
set_option maxRecDepth 100000 in
set_option maxHeartbeats 4000000 in
theorem ln_init_nn {q e : Nat} {x y z : Value} (hq : h q = some (.inr (27, [x, y, z]))) (hB : gB g ≤ q) : Kc g mJ20_init 1 (0) (0) [.ref q, .null, .ref e, .null] h (rR (fun r h' => r = none ∧ h' q = some (lnC e none none) ∧ Fr g h h' [q])) := by
  refine Kc.of (ls := [some (.ref q), some (.null), some (.ref e), some (.null)]) (by decide +kernel) (Nat.le_of_ble_eq_true rfl) rfl ?_
  refine ev_aload_n dJ20_init_0 rfl ?_
  refine ev_objInit dJ20_init_1 q922 q183 q184 (by omega) rfl ?_
  refine ev_aload_n dJ20_init_4 rfl ?_
  refine ev_aload_n dJ20_init_5 rfl ?_
  refine ev_putC [.ref e, y, z] dJ20_init_6 gf_J20_7_J20 hq hB (Or.inl rfl) rfl rfl (Nat.le_of_ble_eq_true rfl) rfl (fun hp_1 hq_2 f3 => ?_)
  have F4 := ((Fr.refl (g := g) _ [q])).write (Or.inl ⟨_, hq_2⟩) f3 hB (by simp)
  refine ev_aload_n dJ20_init_9 rfl ?_
  refine ev_aload_nN dJ20_init_10 rfl ?_
  refine ev_putC [.ref e, .null, z] dJ20_init_11 gf_J20_13_J20 hq_2 hB (Or.inl rfl) rfl rfl (Nat.le_of_ble_eq_true rfl) rfl (fun hp_5 hq_6 f7 => ?_)
  have F8 := (F4).write (Or.inl ⟨_, hq_6⟩) f7 hB (by simp)
  refine ev_aload_n dJ20_init_14 rfl ?_
  refine ev_aload_nN dJ20_init_15 rfl ?_
  refine ev_putC [.ref e, .null, .null] dJ20_init_16 gf_J20_17_J20 hq_6 hB (Or.inl rfl) rfl rfl (Nat.le_of_ble_eq_true rfl) rfl (fun hp_9 hq_10 f11 => ?_)
  have F12 := (F8).write (Or.inl ⟨_, hq_10⟩) f11 hB (by simp)
  refine ev_return dJ20_init_19 rfl ?_
  exact ⟨_, rfl, rfl, hq_10, F12⟩
set_option maxRecDepth 100000 in
set_option maxHeartbeats 4000000 in
theorem ln_init_rn {q e : Nat} {x y z : Value} {pv : Nat} (hq : h q = some (.inr (27, [x, y, z]))) (hB : gB g ≤ q) : Kc g mJ20_init 1 (0) (0) [.ref q, .ref pv, .ref e, .null] h (rR (fun r h' => r = none ∧ h' q = some (lnC e none (some pv)) ∧ Fr g h h' [q])) := by
  refine Kc.of (ls := [some (.ref q), some (.ref pv), some (.ref e), some (.null)]) (by decide +kernel) (Nat.le_of_ble_eq_true rfl) rfl ?_
  refine ev_aload_n dJ20_init_0 rfl ?_
  refine ev_objInit dJ20_init_1 q922 q183 q184 (by omega) rfl ?_
  refine ev_aload_n dJ20_init_4 rfl ?_
  refine ev_aload_n dJ20_init_5 rfl ?_
  refine ev_putC [.ref e, y, z] dJ20_init_6 gf_J20_7_J20 hq hB (Or.inl rfl) rfl rfl (Nat.le_of_ble_eq_true rfl) rfl (fun hp_1 hq_2 f3 => ?_)
  have F4 := ((Fr.refl (g := g) _ [q])).write (Or.inl ⟨_, hq_2⟩) f3 hB (by simp)
  refine ev_aload_n dJ20_init_9 rfl ?_
  refine ev_aload_nN dJ20_init_10 rfl ?_
  refine ev_putC [.ref e, .null, z] dJ20_init_11 gf_J20_13_J20 hq_2 hB (Or.inl rfl) rfl rfl (Nat.le_of_ble_eq_true rfl) rfl (fun hp_5 hq_6 f7 => ?_)
  have F8 := (F4).write (Or.inl ⟨_, hq_6⟩) f7 hB (by simp)
  refine ev_aload_n dJ20_init_14 rfl ?_
  refine ev_aload_n dJ20_init_15 rfl ?_
  refine ev_putC [.ref e, .null, .ref pv] dJ20_init_16 gf_J20_17_J20 hq_6 hB (Or.inl rfl) rfl rfl (Nat.le_of_ble_eq_true rfl) rfl (fun hp_9 hq_10 f11 => ?_)
  have F12 := (F8).write (Or.inl ⟨_, hq_10⟩) f11 hB (by simp)
  refine ev_return dJ20_init_19 rfl ?_
  exact ⟨_, rfl, rfl, hq_10, F12⟩
set_option maxRecDepth 100000 in
set_option maxHeartbeats 4000000 in
theorem ln_init_nr {q e : Nat} {x y z : Value} {n : Nat} (hq : h q = some (.inr (27, [x, y, z]))) (hB : gB g ≤ q) : Kc g mJ20_init 1 (0) (0) [.ref q, .null, .ref e, .ref n] h (rR (fun r h' => r = none ∧ h' q = some (lnC e (some n) none) ∧ Fr g h h' [q])) := by
  refine Kc.of (ls := [some (.ref q), some (.null), some (.ref e), some (.ref n)]) (by decide +kernel) (Nat.le_of_ble_eq_true rfl) rfl ?_
  refine ev_aload_n dJ20_init_0 rfl ?_
  refine ev_objInit dJ20_init_1 q922 q183 q184 (by omega) rfl ?_
  refine ev_aload_n dJ20_init_4 rfl ?_
  refine ev_aload_n dJ20_init_5 rfl ?_
  refine ev_putC [.ref e, y, z] dJ20_init_6 gf_J20_7_J20 hq hB (Or.inl rfl) rfl rfl (Nat.le_of_ble_eq_true rfl) rfl (fun hp_1 hq_2 f3 => ?_)
  have F4 := ((Fr.refl (g := g) _ [q])).write (Or.inl ⟨_, hq_2⟩) f3 hB (by simp)
  refine ev_aload_n dJ20_init_9 rfl ?_
  refine ev_aload_n dJ20_init_10 rfl ?_
  refine ev_putC [.ref e, .ref n, z] dJ20_init_11 gf_J20_13_J20 hq_2 hB (Or.inl rfl) rfl rfl (Nat.le_of_ble_eq_true rfl) rfl (fun hp_5 hq_6 f7 => ?_)
  have F8 := (F4).write (Or.inl ⟨_, hq_6⟩) f7 hB (by simp)
  refine ev_aload_n dJ20_init_14 rfl ?_
  refine ev_aload_nN dJ20_init_15 rfl ?_
  refine ev_putC [.ref e, .ref n, .null] dJ20_init_16 gf_J20_17_J20 hq_6 hB (Or.inl rfl) rfl rfl (Nat.le_of_ble_eq_true rfl) rfl (fun hp_9 hq_10 f11 => ?_)
  have F12 := (F8).write (Or.inl ⟨_, hq_10⟩) f11 hB (by simp)
  refine ev_return dJ20_init_19 rfl ?_
  exact ⟨_, rfl, rfl, hq_10, F12⟩
theorem nodup_cons {q : Nat} {e : Nat} {L : List (Nat × Nat)} (hL : LL h L) (hn : (L.map Prod.fst).Nodup) (hq : h q = none) : (((q, e) :: L).map Prod.fst).Nodup := by
  rw [List.map_cons, List.nodup_cons]
  exact ⟨fun c => by obtain ⟨x, n, pv, z⟩ := hL.mem c; rw [hq] at z; exact absurd z (by simp), hn⟩
theorem llS {a : Nat} {L : List (Nat × Nat)} : ∀ x : Nat, x ∈ [a] → x ∈ a :: L.map Prod.fst ∨ h x = none ∨ x < gB g := fun x hx => Or.inl (by rw [List.mem_singleton.mp hx]; exact List.mem_cons_self)
theorem llS2 {a p : Nat} {L : List (Nat × Nat)} (hp : p ∈ L.map Prod.fst) : ∀ x : Nat, x ∈ [a, p] → x ∈ a :: L.map Prod.fst ∨ h x = none ∨ x < gB g := fun x hx => Or.inl (by
  rcases List.mem_cons.mp hx with r | r
  · rw [r]; exact List.mem_cons_self
  · rw [List.mem_singleton.mp r]; exact List.mem_cons_of_mem _ hp)
set_option maxRecDepth 100000 in
set_option maxHeartbeats 4000000 in
theorem ll_linkFirst {a e : Nat} {mc : Int} {L : List (Nat × Nat)} (H : LLh g h a mc L) : Kc g mJ3_linkFirst 2 (1) (3) [.ref a, .ref e] h (rR (fun r h' => r = none ∧ ∃ q : Nat, h q = none ∧ gB g ≤ q ∧ LLh g h' a (mc + 1) ((q, e) :: L) ∧ Fr g h h' (a :: L.map Prod.fst))) := by
  refine Kc.of (ls := [some (.ref a), some (.ref e), none, none]) (by decide +kernel) (Nat.le_of_ble_eq_true rfl) rfl ?_
  have hB := H.2.1
  rcases L with _ | ⟨⟨p, x⟩, t⟩
  · have ha : h a = some (.inr (17, [vz mc, vz 0, .null, .null])) := H.1
    refine ev_aload_n dJ3_linkFirst_0 rfl ?_
    refine ev_getf dJ3_linkFirst_1 gf_J3_18_J3 ha rfl ?_
    refine ev_astore_nN dJ3_linkFirst_4 (by decide) rfl ?_
    dsimp only [List.set]
    refine ev_newC (c' := 0) (k' := 0) [.null, .null, .null] dJ3_linkFirst_5 cf_J20 q917 q918 q144 rfl (by omega) (by omega) (fun q1 hp_2 e3 B4 Hq1_5 f6 => ?_)
    have ha_7 := (f6 _ (ne_no ha e3)).trans ha
    have z8 := ((Fr.refl (g := g) _ [a])).fresh e3
    have F9 := ((Fr.refl (g := g) _ [a])).alloc (Or.inl ⟨_, Hq1_5⟩) f6 e3
    refine ev_dup dJ3_linkFirst_8 rfl ?_
    refine ev_null dJ3_linkFirst_9 ?_
    refine ev_aload_n dJ3_linkFirst_10 rfl ?_
    refine ev_aload_nN dJ3_linkFirst_11 rfl ?_
    refine ev_callVR dJ3_linkFirst_12 ci_J3_24 ce_J20_init Hq1_5 rfl rfl rfl (ln_init_nn Hq1_5 B4) (by omega) (by omega) (by omega) (Nat.le_of_ble_eq_true rfl) (fun v11 hp_11 P11 => ?_)
    obtain ⟨rfl, Hn, frn⟩ := P11
    have ha_12 := frn.keep ha_7 (by simp only [List.mem_cons, List.not_mem_nil, or_false, not_or]; exact (ne_no ha e3))
    have F13 := (F9).call frn (by intro x hx; rw [List.mem_singleton.mp hx]; exact Or.inr (Or.inl z8))
    refine ev_astore_n dJ3_linkFirst_15 (by decide) rfl ?_
    dsimp only [List.set]
    refine ev_aload_n dJ3_linkFirst_16 rfl ?_
    refine ev_aload_n dJ3_linkFirst_17 rfl ?_
    refine ev_putC [vz mc, vz 0, .ref q1, .null] dJ3_linkFirst_18 gf_J3_18_J3 ha_12 hB (Or.inl rfl) rfl rfl (Nat.le_of_ble_eq_true rfl) rfl (fun hp_14 ha_15 f16 => ?_)
    have Hn_17 := (f16 _ ((ne_no ha e3)).symm).trans Hn
    have F18 := (F13).write (Or.inl ⟨_, ha_15⟩) f16 hB (by simp)
    refine ev_aload_nN dJ3_linkFirst_21 rfl ?_
    refine ev_ifnonnullN dJ3_linkFirst_22 ?_
    refine ev_aload_n dJ3_linkFirst_25 rfl ?_
    refine ev_aload_n dJ3_linkFirst_26 rfl ?_
    refine ev_putC [vz mc, vz 0, .ref q1, .ref q1] dJ3_linkFirst_27 gf_J3_27_J3 ha_15 hB (Or.inl rfl) rfl rfl (Nat.le_of_ble_eq_true rfl) rfl (fun hp_19 ha_20 f21 => ?_)
    have Hn_22 := (f21 _ ((ne_no ha e3)).symm).trans Hn_17
    have F23 := (F18).write (Or.inl ⟨_, ha_20⟩) f21 hB (by simp)
    refine ev_goto (tgt := 38) dJ3_linkFirst_30 (by decide) ?_
    refine ev_aload_n dJ3_linkFirst_38 rfl ?_
    refine ev_dup dJ3_linkFirst_39 rfl ?_
    refine ev_getf dJ3_linkFirst_40 gf_J3_7_J3 ha_20 rfl ?_
    refine ev_iconstZ dJ3_linkFirst_43 ?_
    refine ev_iaddZ dJ3_linkFirst_44 ?_
    refine ev_putC [vz mc, vz (0 + 1), .ref q1, .ref q1] dJ3_linkFirst_45 gf_J3_7_J3 ha_20 hB (Or.inl rfl) rfl rfl (Nat.le_of_ble_eq_true rfl) rfl (fun hp_24 ha_25 f26 => ?_)
    have Hn_27 := (f26 _ ((ne_no ha e3)).symm).trans Hn_22
    have F28 := (F23).write (Or.inl ⟨_, ha_25⟩) f26 hB (by simp)
    refine ev_aload_n dJ3_linkFirst_48 rfl ?_
    refine ev_dup dJ3_linkFirst_49 rfl ?_
    refine ev_getf dJ3_linkFirst_50 gf_J3_33_J3 ha_25 rfl ?_
    refine ev_iconstZ dJ3_linkFirst_53 ?_
    refine ev_iaddZ dJ3_linkFirst_54 ?_
    refine ev_putC [vz (mc + 1), vz (0 + 1), .ref q1, .ref q1] dJ3_linkFirst_55 gf_J3_33_J3 ha_25 hB (Or.inl rfl) rfl rfl (Nat.le_of_ble_eq_true rfl) rfl (fun hp_29 ha_30 f31 => ?_)
    have Hn_32 := (f31 _ ((ne_no ha e3)).symm).trans Hn_27
    have F33 := (F28).write (Or.inl ⟨_, ha_30⟩) f31 hB (by simp)
    refine ev_return dJ3_linkFirst_58 rfl ?_
    refine ⟨_, rfl, rfl, q1, z8, B4, ⟨ha_30, hB, ?_, ?_, ?_⟩, (F33).more llS⟩
    · intro i p x hi
      cases i with
      | zero => cases hi; exact Hn_32
      | succ i => simp at hi
    · simp
    · intro p hp; rw [List.mem_singleton.mp hp]; exact B4
  · obtain ⟨lv, elv⟩ : ∃ lv, lv = va_rf (((p, x) :: t).getLast?.map Prod.fst) := ⟨_, rfl⟩
    obtain ⟨nx, enx⟩ : ∃ nx, nx = va_rf ((t[0]?).map Prod.fst) := ⟨_, rfl⟩
    have ha : h a = some (.inr (17, [vz mc, vz ((((p, x) :: t).length : Nat) : Int), .ref p, lv])) := by rw [elv]; exact H.1
    have hp : h p = some (.inr (27, [.ref x, nx, .null])) := by rw [enx]; exact H.2.2.1 0 p x rfl
    have hpB : gB g ≤ p := H.2.2.2.2 p (LL.at (i := 0) rfl)
    refine ev_aload_n dJ3_linkFirst_0 rfl ?_
    refine ev_getf dJ3_linkFirst_1 gf_J3_18_J3 ha rfl ?_
    refine ev_astore_n dJ3_linkFirst_4 (by decide) rfl ?_
    dsimp only [List.set]
    refine ev_newC (c' := 0) (k' := 0) [.null, .null, .null] dJ3_linkFirst_5 cf_J20 q917 q918 q144 rfl (by omega) (by omega) (fun q1 hp_2 e3 B4 Hq1_5 f6 => ?_)
    have ha_7 := (f6 _ (ne_no ha e3)).trans ha
    have hp_8 := (f6 _ (ne_no hp e3)).trans hp
    have z9 := ((Fr.refl (g := g) _ [a, p])).fresh e3
    have F10 := ((Fr.refl (g := g) _ [a, p])).alloc (Or.inl ⟨_, Hq1_5⟩) f6 e3
    refine ev_dup dJ3_linkFirst_8 rfl ?_
    refine ev_null dJ3_linkFirst_9 ?_
    refine ev_aload_n dJ3_linkFirst_10 rfl ?_
    refine ev_aload_n dJ3_linkFirst_11 rfl ?_
    refine ev_callVR dJ3_linkFirst_12 ci_J3_24 ce_J20_init Hq1_5 rfl rfl rfl (ln_init_nr Hq1_5 B4) (by omega) (by omega) (by omega) (Nat.le_of_ble_eq_true rfl) (fun v12 hp_12 P12 => ?_)
    obtain ⟨rfl, Hn, frn⟩ := P12
    have ha_13 := frn.keep ha_7 (by simp only [List.mem_cons, List.not_mem_nil, or_false, not_or]; exact (ne_no ha e3))
    have hp_14 := frn.keep hp_8 (by simp only [List.mem_cons, List.not_mem_nil, or_false, not_or]; exact (ne_no hp e3))
    have F15 := (F10).call frn (by intro x hx; rw [List.mem_singleton.mp hx]; exact Or.inr (Or.inl z9))
    refine ev_astore_n dJ3_linkFirst_15 (by decide) rfl ?_
    dsimp only [List.set]
    refine ev_aload_n dJ3_linkFirst_16 rfl ?_
    refine ev_aload_n dJ3_linkFirst_17 rfl ?_
    refine ev_putC [vz mc, vz ((((p, x) :: t).length : Nat) : Int), .ref q1, lv] dJ3_linkFirst_18 gf_J3_18_J3 ha_13 hB (Or.inl rfl) rfl rfl (Nat.le_of_ble_eq_true rfl) rfl (fun hp_16 ha_17 f18 => ?_)
    have hp_19 := (f18 _ (ne_of hp_14 ha_13 (by simp))).trans hp_14
    have Hn_20 := (f18 _ ((ne_no ha e3)).symm).trans Hn
    have F21 := (F15).write (Or.inl ⟨_, ha_17⟩) f18 hB (by simp)
    refine ev_aload_n dJ3_linkFirst_21 rfl ?_
    refine ev_ifnonnull (tgt := 33) dJ3_linkFirst_22 (by decide) ?_
    refine ev_aload_n dJ3_linkFirst_33 rfl ?_
    refine ev_aload_n dJ3_linkFirst_34 rfl ?_
    refine ev_putC [.ref x, nx, .ref q1] dJ3_linkFirst_35 gf_J3_30_J20 hp_19 hpB (Or.inl rfl) rfl rfl (Nat.le_of_ble_eq_true rfl) rfl (fun hp_22 hp_23 f24 => ?_)
    have ha_25 := (f24 _ (ne_of ha_17 hp_19 (by simp))).trans ha_17
    have Hn_26 := (f24 _ ((ne_no hp e3)).symm).trans Hn_20
    have F27 := (F21).write (Or.inl ⟨_, hp_23⟩) f24 hpB (by simp)
    refine ev_aload_n dJ3_linkFirst_38 rfl ?_
    refine ev_dup dJ3_linkFirst_39 rfl ?_
    refine ev_getf dJ3_linkFirst_40 gf_J3_7_J3 ha_25 rfl ?_
    refine ev_iconstZ dJ3_linkFirst_43 ?_
    refine ev_iaddZ dJ3_linkFirst_44 ?_
    refine ev_putC [vz mc, vz (((((p, x) :: t).length : Nat) : Int) + 1), .ref q1, lv] dJ3_linkFirst_45 gf_J3_7_J3 ha_25 hB (Or.inl rfl) rfl rfl (Nat.le_of_ble_eq_true rfl) rfl (fun hp_28 ha_29 f30 => ?_)
    have hp_31 := (f30 _ (ne_of hp_23 ha_25 (by simp))).trans hp_23
    have Hn_32 := (f30 _ ((ne_no ha e3)).symm).trans Hn_26
    have F33 := (F27).write (Or.inl ⟨_, ha_29⟩) f30 hB (by simp)
    refine ev_aload_n dJ3_linkFirst_48 rfl ?_
    refine ev_dup dJ3_linkFirst_49 rfl ?_
    refine ev_getf dJ3_linkFirst_50 gf_J3_33_J3 ha_29 rfl ?_
    refine ev_iconstZ dJ3_linkFirst_53 ?_
    refine ev_iaddZ dJ3_linkFirst_54 ?_
    refine ev_putC [vz (mc + 1), vz (((((p, x) :: t).length : Nat) : Int) + 1), .ref q1, lv] dJ3_linkFirst_55 gf_J3_33_J3 ha_29 hB (Or.inl rfl) rfl rfl (Nat.le_of_ble_eq_true rfl) rfl (fun hp_34 ha_35 f36 => ?_)
    have hp_37 := (f36 _ (ne_of hp_31 ha_29 (by simp))).trans hp_31
    have Hn_38 := (f36 _ ((ne_no ha e3)).symm).trans Hn_32
    have F39 := (F33).write (Or.inl ⟨_, ha_35⟩) f36 hB (by simp)
    refine ev_return dJ3_linkFirst_58 rfl ?_
    refine ⟨_, rfl, rfl, q1, z9, B4, ⟨?_, hB, ?_, nodup_cons H.2.2.1 H.2.2.2.1 z9, ?_⟩, (F39).more (llS2 (LL.at (i := 0) rfl))⟩
    · rw [elv] at ha; have r := ha_35; rw [elv] at r; exact r
    · intro i r y hi
      match i, hi with
      | 0, hi => cases hi; exact Hn_38
      | 1, hi => cases hi; have r := hp_37; rw [enx] at r; exact r
      | i + 2, hi =>
        refine (F39).keep (H.2.2.1 (i + 1) r y hi) ?_
        have hm : r ∈ t.map Prod.fst := LL.at (i := i) hi
        simp only [List.mem_cons, List.not_mem_nil, or_false, not_or]
        exact ⟨fun c => H.2.2.1.na H.1 (c ▸ List.mem_cons_of_mem _ hm), fun c => (List.nodup_cons.mp H.2.2.2.1).1 (c ▸ hm)⟩
    · intro r hr
      rcases List.mem_cons.mp hr with c | c
      · rw [c]; exact B4
      · exact H.2.2.2.2 r c
theorem snocC {α : Type} (L : List α) : L = [] ∨ ∃ (t : List α) (x : α), L = t ++ [x] := by
  rcases List.eq_nil_or_concat L with r | ⟨t, x, r⟩
  · exact Or.inl r
  · exact Or.inr ⟨t, x, by rw [r, List.concat_eq_append]⟩
theorem snoc_len {α : Type} (t : List α) (x : α) : (t ++ [x]).length = t.length + 1 := by simp
theorem snoc_at {α : Type} (t : List α) (x : α) : (t ++ [x])[t.length]? = some x := by rw [List.getElem?_append_right (Nat.le_refl _), Nat.sub_self]; rfl
theorem snoc_lt {α : Type} {t : List α} {x : α} {i : Nat} (h : i < t.length) : (t ++ [x])[i]? = t[i]? := List.getElem?_append_left h
theorem snoc_end {α : Type} (t : List α) (x : α) : (t ++ [x])[t.length + 1]? = none := List.getElem?_eq_none (by simp)
theorem snoc_hd {α : Type} {t : List α} (x y : α) : ((t ++ [x]) ++ [y]).head? = (t ++ [x]).head? := by cases t <;> rfl
theorem pvO_snoc {t : List (Nat × Nat)} {x : Nat × Nat} {i : Nat} (h : i ≤ t.length) : pvO (t ++ [x]) i = pvO t i := by
  cases i with
  | zero => rfl
  | succ i => show ((t ++ [x])[i]?).map _ = (t[i]?).map _; rw [snoc_lt (by omega)]
theorem nodup_snoc {q : Nat} {e : Nat} {L : List (Nat × Nat)} (hL : LL h L) (hn : (L.map Prod.fst).Nodup) (hq : h q = none) : ((L ++ [(q, e)]).map Prod.fst).Nodup := by
  rw [List.map_append, List.nodup_append]
  refine ⟨hn, by simp, fun x hx y hy c => ?_⟩
  obtain rfl : y = q := List.mem_singleton.mp hy
  obtain ⟨x', n, pv, z⟩ := hL.mem hx
  rw [c, hq] at z; exact absurd z (by simp)
theorem snoc_nd {t : List (Nat × Nat)} {p x : Nat} (hn : ((t ++ [(p, x)]).map Prod.fst).Nodup) : p ∉ t.map Prod.fst := by
  rw [List.map_append, List.nodup_append] at hn
  exact fun c => hn.2.2 p c p (List.mem_singleton.mpr rfl) rfl
set_option maxRecDepth 100000 in
set_option maxHeartbeats 4000000 in
theorem ll_linkLast {a e : Nat} {mc : Int} {L : List (Nat × Nat)} (H : LLh g h a mc L) : Kc g mJ3_linkLast 2 (1) (3) [.ref a, .ref e] h (rR (fun r h' => r = none ∧ ∃ q : Nat, h q = none ∧ gB g ≤ q ∧ LLh g h' a (mc + 1) (L ++ [(q, e)]) ∧ Fr g h h' (a :: L.map Prod.fst))) := by
  refine Kc.of (ls := [some (.ref a), some (.ref e), none, none]) (by decide +kernel) (Nat.le_of_ble_eq_true rfl) rfl ?_
  have hB := H.2.1
  rcases snocC L with rfl | ⟨t, ⟨p, x⟩, rfl⟩
  · have ha : h a = some (.inr (17, [vz mc, vz 0, .null, .null])) := H.1
    refine ev_aload_n dJ3_linkLast_0 rfl ?_
    refine ev_getf dJ3_linkLast_1 gf_J3_27_J3 ha rfl ?_
    refine ev_astore_nN dJ3_linkLast_4 (by decide) rfl ?_
    dsimp only [List.set]
    refine ev_newC (c' := 0) (k' := 0) [.null, .null, .null] dJ3_linkLast_5 cf_J20 q917 q918 q144 rfl (by omega) (by omega) (fun q1 hp_2 e3 B4 Hq1_5 f6 => ?_)
    have ha_7 := (f6 _ (ne_no ha e3)).trans ha
    have z8 := ((Fr.refl (g := g) _ [a])).fresh e3
    have F9 := ((Fr.refl (g := g) _ [a])).alloc (Or.inl ⟨_, Hq1_5⟩) f6 e3
    refine ev_dup dJ3_linkLast_8 rfl ?_
    refine ev_aload_nN dJ3_linkLast_9 rfl ?_
    refine ev_aload_n dJ3_linkLast_10 rfl ?_
    refine ev_null dJ3_linkLast_11 ?_
    refine ev_callVR dJ3_linkLast_12 ci_J3_24 ce_J20_init Hq1_5 rfl rfl rfl (ln_init_nn Hq1_5 B4) (by omega) (by omega) (by omega) (Nat.le_of_ble_eq_true rfl) (fun v11 hp_11 P11 => ?_)
    obtain ⟨rfl, Hn, frn⟩ := P11
    have ha_12 := frn.keep ha_7 (by simp only [List.mem_cons, List.not_mem_nil, or_false, not_or]; exact (ne_no ha e3))
    have F13 := (F9).call frn (by intro x hx; rw [List.mem_singleton.mp hx]; exact Or.inr (Or.inl z8))
    refine ev_astore_n dJ3_linkLast_15 (by decide) rfl ?_
    dsimp only [List.set]
    refine ev_aload_n dJ3_linkLast_16 rfl ?_
    refine ev_aload_n dJ3_linkLast_17 rfl ?_
    refine ev_putC [vz mc, vz 0, .null, .ref q1] dJ3_linkLast_18 gf_J3_27_J3 ha_12 hB (Or.inl rfl) rfl rfl (Nat.le_of_ble_eq_true rfl) rfl (fun hp_14 ha_15 f16 => ?_)
    have Hn_17 := (f16 _ ((ne_no ha e3)).symm).trans Hn
    have F18 := (F13).write (Or.inl ⟨_, ha_15⟩) f16 hB (by simp)
    refine ev_aload_nN dJ3_linkLast_21 rfl ?_
    refine ev_ifnonnullN dJ3_linkLast_22 ?_
    refine ev_aload_n dJ3_linkLast_25 rfl ?_
    refine ev_aload_n dJ3_linkLast_26 rfl ?_
    refine ev_putC [vz mc, vz 0, .ref q1, .ref q1] dJ3_linkLast_27 gf_J3_18_J3 ha_15 hB (Or.inl rfl) rfl rfl (Nat.le_of_ble_eq_true rfl) rfl (fun hp_19 ha_20 f21 => ?_)
    have Hn_22 := (f21 _ ((ne_no ha e3)).symm).trans Hn_17
    have F23 := (F18).write (Or.inl ⟨_, ha_20⟩) f21 hB (by simp)
    refine ev_goto (tgt := 38) dJ3_linkLast_30 (by decide) ?_
    refine ev_aload_n dJ3_linkLast_38 rfl ?_
    refine ev_dup dJ3_linkLast_39 rfl ?_
    refine ev_getf dJ3_linkLast_40 gf_J3_7_J3 ha_20 rfl ?_
    refine ev_iconstZ dJ3_linkLast_43 ?_
    refine ev_iaddZ dJ3_linkLast_44 ?_
    refine ev_putC [vz mc, vz (0 + 1), .ref q1, .ref q1] dJ3_linkLast_45 gf_J3_7_J3 ha_20 hB (Or.inl rfl) rfl rfl (Nat.le_of_ble_eq_true rfl) rfl (fun hp_24 ha_25 f26 => ?_)
    have Hn_27 := (f26 _ ((ne_no ha e3)).symm).trans Hn_22
    have F28 := (F23).write (Or.inl ⟨_, ha_25⟩) f26 hB (by simp)
    refine ev_aload_n dJ3_linkLast_48 rfl ?_
    refine ev_dup dJ3_linkLast_49 rfl ?_
    refine ev_getf dJ3_linkLast_50 gf_J3_33_J3 ha_25 rfl ?_
    refine ev_iconstZ dJ3_linkLast_53 ?_
    refine ev_iaddZ dJ3_linkLast_54 ?_
    refine ev_putC [vz (mc + 1), vz (0 + 1), .ref q1, .ref q1] dJ3_linkLast_55 gf_J3_33_J3 ha_25 hB (Or.inl rfl) rfl rfl (Nat.le_of_ble_eq_true rfl) rfl (fun hp_29 ha_30 f31 => ?_)
    have Hn_32 := (f31 _ ((ne_no ha e3)).symm).trans Hn_27
    have F33 := (F28).write (Or.inl ⟨_, ha_30⟩) f31 hB (by simp)
    refine ev_return dJ3_linkLast_58 rfl ?_
    refine ⟨_, rfl, rfl, q1, z8, B4, ⟨ha_30, hB, ?_, ?_, ?_⟩, (F33).more llS⟩
    · intro i p x hi
      cases i with
      | zero => cases hi; exact Hn_32
      | succ i => simp at hi
    · simp
    · intro p hp; rw [List.mem_singleton.mp hp]; exact B4
  · obtain ⟨fv, efv⟩ : ∃ fv, fv = va_rf ((t ++ [(p, x)]).head?.map Prod.fst) := ⟨_, rfl⟩
    obtain ⟨pv, epv⟩ : ∃ pv, pv = va_rf (pvO t t.length) := ⟨_, rfl⟩
    have ha : h a = some (.inr (17, [vz mc, vz ((t ++ [(p, x)]).length : Nat), fv, .ref p])) := by have r := H.1; rw [List.getLast?_concat] at r; rw [efv]; exact r
    have hp : h p = some (.inr (27, [.ref x, .null, pv])) := by have r := H.2.2.1 t.length p x (snoc_at _ _); rw [snoc_end, pvO_snoc (Nat.le_refl _)] at r; rw [epv]; exact r
    have hpB : gB g ≤ p := H.2.2.2.2 p (by simp)
    refine ev_aload_n dJ3_linkLast_0 rfl ?_
    refine ev_getf dJ3_linkLast_1 gf_J3_27_J3 ha rfl ?_
    refine ev_astore_n dJ3_linkLast_4 (by decide) rfl ?_
    dsimp only [List.set]
    refine ev_newC (c' := 0) (k' := 0) [.null, .null, .null] dJ3_linkLast_5 cf_J20 q917 q918 q144 rfl (by omega) (by omega) (fun q1 hp_2 e3 B4 Hq1_5 f6 => ?_)
    have ha_7 := (f6 _ (ne_no ha e3)).trans ha
    have hp_8 := (f6 _ (ne_no hp e3)).trans hp
    have z9 := ((Fr.refl (g := g) _ [a, p])).fresh e3
    have F10 := ((Fr.refl (g := g) _ [a, p])).alloc (Or.inl ⟨_, Hq1_5⟩) f6 e3
    refine ev_dup dJ3_linkLast_8 rfl ?_
    refine ev_aload_n dJ3_linkLast_9 rfl ?_
    refine ev_aload_n dJ3_linkLast_10 rfl ?_
    refine ev_null dJ3_linkLast_11 ?_
    refine ev_callVR dJ3_linkLast_12 ci_J3_24 ce_J20_init Hq1_5 rfl rfl rfl (ln_init_rn Hq1_5 B4) (by omega) (by omega) (by omega) (Nat.le_of_ble_eq_true rfl) (fun v12 hp_12 P12 => ?_)
    obtain ⟨rfl, Hn, frn⟩ := P12
    have ha_13 := frn.keep ha_7 (by simp only [List.mem_cons, List.not_mem_nil, or_false, not_or]; exact (ne_no ha e3))
    have hp_14 := frn.keep hp_8 (by simp only [List.mem_cons, List.not_mem_nil, or_false, not_or]; exact (ne_no hp e3))
    have F15 := (F10).call frn (by intro x hx; rw [List.mem_singleton.mp hx]; exact Or.inr (Or.inl z9))
    refine ev_astore_n dJ3_linkLast_15 (by decide) rfl ?_
    dsimp only [List.set]
    refine ev_aload_n dJ3_linkLast_16 rfl ?_
    refine ev_aload_n dJ3_linkLast_17 rfl ?_
    refine ev_putC [vz mc, vz ((t ++ [(p, x)]).length : Nat), fv, .ref q1] dJ3_linkLast_18 gf_J3_27_J3 ha_13 hB (Or.inl rfl) rfl rfl (Nat.le_of_ble_eq_true rfl) rfl (fun hp_16 ha_17 f18 => ?_)
    have hp_19 := (f18 _ (ne_of hp_14 ha_13 (by simp))).trans hp_14
    have Hn_20 := (f18 _ ((ne_no ha e3)).symm).trans Hn
    have F21 := (F15).write (Or.inl ⟨_, ha_17⟩) f18 hB (by simp)
    refine ev_aload_n dJ3_linkLast_21 rfl ?_
    refine ev_ifnonnull (tgt := 33) dJ3_linkLast_22 (by decide) ?_
    refine ev_aload_n dJ3_linkLast_33 rfl ?_
    refine ev_aload_n dJ3_linkLast_34 rfl ?_
    refine ev_putC [.ref x, .ref q1, pv] dJ3_linkLast_35 gf_J3_36_J20 hp_19 hpB (Or.inl rfl) rfl rfl (Nat.le_of_ble_eq_true rfl) rfl (fun hp_22 hp_23 f24 => ?_)
    have ha_25 := (f24 _ (ne_of ha_17 hp_19 (by simp))).trans ha_17
    have Hn_26 := (f24 _ ((ne_no hp e3)).symm).trans Hn_20
    have F27 := (F21).write (Or.inl ⟨_, hp_23⟩) f24 hpB (by simp)
    refine ev_aload_n dJ3_linkLast_38 rfl ?_
    refine ev_dup dJ3_linkLast_39 rfl ?_
    refine ev_getf dJ3_linkLast_40 gf_J3_7_J3 ha_25 rfl ?_
    refine ev_iconstZ dJ3_linkLast_43 ?_
    refine ev_iaddZ dJ3_linkLast_44 ?_
    refine ev_putC [vz mc, vz (((t ++ [(p, x)]).length : Nat) + 1), fv, .ref q1] dJ3_linkLast_45 gf_J3_7_J3 ha_25 hB (Or.inl rfl) rfl rfl (Nat.le_of_ble_eq_true rfl) rfl (fun hp_28 ha_29 f30 => ?_)
    have hp_31 := (f30 _ (ne_of hp_23 ha_25 (by simp))).trans hp_23
    have Hn_32 := (f30 _ ((ne_no ha e3)).symm).trans Hn_26
    have F33 := (F27).write (Or.inl ⟨_, ha_29⟩) f30 hB (by simp)
    refine ev_aload_n dJ3_linkLast_48 rfl ?_
    refine ev_dup dJ3_linkLast_49 rfl ?_
    refine ev_getf dJ3_linkLast_50 gf_J3_33_J3 ha_29 rfl ?_
    refine ev_iconstZ dJ3_linkLast_53 ?_
    refine ev_iaddZ dJ3_linkLast_54 ?_
    refine ev_putC [vz (mc + 1), vz (((t ++ [(p, x)]).length : Nat) + 1), fv, .ref q1] dJ3_linkLast_55 gf_J3_33_J3 ha_29 hB (Or.inl rfl) rfl rfl (Nat.le_of_ble_eq_true rfl) rfl (fun hp_34 ha_35 f36 => ?_)
    have hp_37 := (f36 _ (ne_of hp_31 ha_29 (by simp))).trans hp_31
    have Hn_38 := (f36 _ ((ne_no ha e3)).symm).trans Hn_32
    have F39 := (F33).write (Or.inl ⟨_, ha_35⟩) f36 hB (by simp)
    refine ev_return dJ3_linkLast_58 rfl ?_
    refine ⟨_, rfl, rfl, q1, z9, B4, ⟨?_, hB, ?_, nodup_snoc H.2.2.1 H.2.2.2.1 z9, ?_⟩, (F39).more (llS2 (by simp))⟩
    · have r := ha_35; rw [r, snoc_hd, List.getLast?_concat, efv, snoc_len (t ++ [(p, x)])]; rfl
    · intro i r y hi
      by_cases c1 : i < t.length
      · rw [snoc_lt (by simp; omega), snoc_lt c1] at hi
        have r1 := H.2.2.1 i r y (by rw [snoc_lt c1]; exact hi)
        rw [snoc_lt (by simp; omega), pvO_snoc (by simp; omega)]
        refine (F39).keep r1 ?_
        have hm : r ∈ t.map Prod.fst := LL.at (i := i) hi
        simp only [List.mem_cons, List.not_mem_nil, or_false, not_or]
        exact ⟨fun c => H.2.2.1.na H.1 (c ▸ (by rw [List.map_append]; exact List.mem_append_left _ hm)), fun c => snoc_nd H.2.2.2.1 (c ▸ hm)⟩
      · by_cases c2 : i = t.length
        · subst c2
          rw [snoc_lt (by simp), snoc_at] at hi
          cases hi
          have r := hp_37
          rw [r, pvO_snoc (by simp), pvO_snoc (Nat.le_refl _), show t.length + 1 = (t ++ [(p, x)]).length by simp, snoc_at, epv]; rfl
        · have c3 : i = (t ++ [(p, x)]).length := by have := (List.getElem?_eq_some_iff.mp hi).1; simp at this ⊢; omega
          subst c3
          rw [snoc_at] at hi
          cases hi
          have r := Hn_38
          rw [r, snoc_end, snoc_len t, show pvO ((t ++ [(p, x)]) ++ [(q1, e)]) (t.length + 1) = some p by show (((t ++ [(p, x)]) ++ [(q1, e)])[t.length]?).map _ = _; rw [snoc_lt (by simp), snoc_at]; rfl]; rfl
    · intro r hr
      rw [List.map_append] at hr
      rcases List.mem_append.mp hr with c | c
      · exact H.2.2.2.2 r c
      · rw [List.mem_singleton.mp c]; exact B4
set_option maxRecDepth 100000 in
set_option maxHeartbeats 4000000 in
theorem ll_unlinkFirst {a p x : Nat} {mc : Int} {t : List (Nat × Nat)} (H : LLh g h a mc ((p, x) :: t)) : Kc g mJ3_unlinkFirst 0 (0) (0) [.ref a, .ref p] h (rR (fun r h' => r = some (.ref x) ∧ LLh g h' a (mc + 1) (t) ∧ Fr g h h' (a :: ((p, x) :: t).map Prod.fst))) := by
  refine Kc.of (ls := [some (.ref a), some (.ref p), none, none]) (by decide +kernel) (Nat.le_of_ble_eq_true rfl) rfl ?_
  have hB := H.2.1
  rcases t with _ | ⟨⟨p2, x2⟩, t⟩
  · have ha : h a = some (.inr (17, [vz mc, vz 1, .ref p, .ref p])) := H.1
    have hp : h p = some (.inr (27, [.ref x, .null, .null])) := H.2.2.1 0 p x rfl
    have hpB : gB g ≤ p := H.2.2.2.2 p (LL.at (i := 0) rfl)
    refine ev_aload_n dJ3_unlinkFirst_0 rfl ?_
    refine ev_getf dJ3_unlinkFirst_1 gf_J3_39_J20 hp rfl ?_
    refine ev_astore_n dJ3_unlinkFirst_4 (by decide) rfl ?_
    dsimp only [List.set]
    refine ev_aload_n dJ3_unlinkFirst_5 rfl ?_
    refine ev_getf dJ3_unlinkFirst_6 gf_J3_36_J20 hp rfl ?_
    refine ev_astore_nN dJ3_unlinkFirst_9 (by decide) rfl ?_
    dsimp only [List.set]
    refine ev_aload_n dJ3_unlinkFirst_10 rfl ?_
    refine ev_null dJ3_unlinkFirst_11 ?_
    refine ev_putC [.null, .null, .null] dJ3_unlinkFirst_12 gf_J3_39_J20 hp hpB (Or.inl rfl) rfl rfl (Nat.le_of_ble_eq_true rfl) rfl (fun hp_1 hp_2 f3 => ?_)
    have ha_4 := (f3 _ (ne_of ha hp (by simp))).trans ha
    have F5 := ((Fr.refl (g := g) _ [a, p])).write (Or.inl ⟨_, hp_2⟩) f3 hpB (by simp)
    refine ev_aload_n dJ3_unlinkFirst_15 rfl ?_
    refine ev_null dJ3_unlinkFirst_16 ?_
    refine ev_putC [.null, .null, .null] dJ3_unlinkFirst_17 gf_J3_36_J20 hp_2 hpB (Or.inl rfl) rfl rfl (Nat.le_of_ble_eq_true rfl) rfl (fun hp_6 hp_7 f8 => ?_)
    have ha_9 := (f8 _ (ne_of ha_4 hp_2 (by simp))).trans ha_4
    have F10 := (F5).write (Or.inl ⟨_, hp_7⟩) f8 hpB (by simp)
    refine ev_aload_n dJ3_unlinkFirst_20 rfl ?_
    refine ev_aload_nN dJ3_unlinkFirst_21 rfl ?_
    refine ev_putC [vz mc, vz 1, .null, .ref p] dJ3_unlinkFirst_22 gf_J3_18_J3 ha_9 hB (Or.inl rfl) rfl rfl (Nat.le_of_ble_eq_true rfl) rfl (fun hp_11 ha_12 f13 => ?_)
    have hp_14 := (f13 _ (ne_of hp_7 ha_9 (by simp))).trans hp_7
    have F15 := (F10).write (Or.inl ⟨_, ha_12⟩) f13 hB (by simp)
    refine ev_aload_nN dJ3_unlinkFirst_25 rfl ?_
    refine ev_ifnonnullN dJ3_unlinkFirst_26 ?_
    refine ev_aload_n dJ3_unlinkFirst_29 rfl ?_
    refine ev_null dJ3_unlinkFirst_30 ?_
    refine ev_putC [vz mc, vz 1, .null, .null] dJ3_unlinkFirst_31 gf_J3_27_J3 ha_12 hB (Or.inl rfl) rfl rfl (Nat.le_of_ble_eq_true rfl) rfl (fun hp_16 ha_17 f18 => ?_)
    have hp_19 := (f18 _ (ne_of hp_14 ha_12 (by simp))).trans hp_14
    have F20 := (F15).write (Or.inl ⟨_, ha_17⟩) f18 hB (by simp)
    refine ev_goto (tgt := 42) dJ3_unlinkFirst_34 (by decide) ?_
    refine ev_aload_n dJ3_unlinkFirst_42 rfl ?_
    refine ev_dup dJ3_unlinkFirst_43 rfl ?_
    refine ev_getf dJ3_unlinkFirst_44 gf_J3_7_J3 ha_17 rfl ?_
    refine ev_iconstZ dJ3_unlinkFirst_47 ?_
    refine ev_isubZ dJ3_unlinkFirst_48 ?_
    refine ev_putC [vz mc, vz (1 - 1), .null, .null] dJ3_unlinkFirst_49 gf_J3_7_J3 ha_17 hB (Or.inl rfl) rfl rfl (Nat.le_of_ble_eq_true rfl) rfl (fun hp_21 ha_22 f23 => ?_)
    have hp_24 := (f23 _ (ne_of hp_19 ha_17 (by simp))).trans hp_19
    have F25 := (F20).write (Or.inl ⟨_, ha_22⟩) f23 hB (by simp)
    refine ev_aload_n dJ3_unlinkFirst_52 rfl ?_
    refine ev_dup dJ3_unlinkFirst_53 rfl ?_
    refine ev_getf dJ3_unlinkFirst_54 gf_J3_33_J3 ha_22 rfl ?_
    refine ev_iconstZ dJ3_unlinkFirst_57 ?_
    refine ev_iaddZ dJ3_unlinkFirst_58 ?_
    refine ev_putC [vz (mc + 1), vz (1 - 1), .null, .null] dJ3_unlinkFirst_59 gf_J3_33_J3 ha_22 hB (Or.inl rfl) rfl rfl (Nat.le_of_ble_eq_true rfl) rfl (fun hp_26 ha_27 f28 => ?_)
    have hp_29 := (f28 _ (ne_of hp_24 ha_22 (by simp))).trans hp_24
    have F30 := (F25).write (Or.inl ⟨_, ha_27⟩) f28 hB (by simp)
    refine ev_aload_n dJ3_unlinkFirst_62 rfl ?_
    refine ev_areturn dJ3_unlinkFirst_63 rfl (Or.inl ⟨_, rfl⟩) (Or.inr ⟨_, rfl⟩) ?_
    refine ⟨_, rfl, rfl, ⟨ha_27, hB, ?_, ?_, ?_⟩, (F30).more (llS2 (LL.at (i := 0) rfl))⟩
    · intro i r y hi; simp at hi
    · simp
    · intro r hr; simp at hr
  · obtain ⟨lv, elv⟩ : ∃ lv, lv = va_rf (((p2, x2) :: t).getLast?.map Prod.fst) := ⟨_, rfl⟩
    obtain ⟨nx, enx⟩ : ∃ nx, nx = va_rf ((t[0]?).map Prod.fst) := ⟨_, rfl⟩
    have ha : h a = some (.inr (17, [vz mc, vz ((((p, x) :: (p2, x2) :: t).length : Nat) : Int), .ref p, lv])) := by rw [elv]; exact H.1
    have hp : h p = some (.inr (27, [.ref x, .ref p2, .null])) := H.2.2.1 0 p x rfl
    have hpB : gB g ≤ p := H.2.2.2.2 p (LL.at (i := 0) rfl)
    have hp2 : h p2 = some (.inr (27, [.ref x2, nx, .ref p])) := by rw [enx]; exact H.2.2.1 1 p2 x2 rfl
    have hp2B : gB g ≤ p2 := H.2.2.2.2 p2 (LL.at (i := 1) rfl)
    have hne : p ≠ p2 := fun c => (List.nodup_cons.mp H.2.2.2.1).1 (by rw [c]; exact List.mem_cons_self)
    refine ev_aload_n dJ3_unlinkFirst_0 rfl ?_
    refine ev_getf dJ3_unlinkFirst_1 gf_J3_39_J20 hp rfl ?_
    refine ev_astore_n dJ3_unlinkFirst_4 (by decide) rfl ?_
    dsimp only [List.set]
    refine ev_aload_n dJ3_unlinkFirst_5 rfl ?_
    refine ev_getf dJ3_unlinkFirst_6 gf_J3_36_J20 hp rfl ?_
    refine ev_astore_n dJ3_unlinkFirst_9 (by decide) rfl ?_
    dsimp only [List.set]
    refine ev_aload_n dJ3_unlinkFirst_10 rfl ?_
    refine ev_null dJ3_unlinkFirst_11 ?_
    refine ev_putC [.null, .ref p2, .null] dJ3_unlinkFirst_12 gf_J3_39_J20 hp hpB (Or.inl rfl) rfl rfl (Nat.le_of_ble_eq_true rfl) rfl (fun hp_1 hp_2 f3 => ?_)
    have ha_4 := (f3 _ (ne_of ha hp (by simp))).trans ha
    have hp2_5 := (f3 _ (hne).symm).trans hp2
    have F6 := ((Fr.refl (g := g) _ [a, p, p2])).write (Or.inl ⟨_, hp_2⟩) f3 hpB (by simp)
    refine ev_aload_n dJ3_unlinkFirst_15 rfl ?_
    refine ev_null dJ3_unlinkFirst_16 ?_
    refine ev_putC [.null, .null, .null] dJ3_unlinkFirst_17 gf_J3_36_J20 hp_2 hpB (Or.inl rfl) rfl rfl (Nat.le_of_ble_eq_true rfl) rfl (fun hp_7 hp_8 f9 => ?_)
    have ha_10 := (f9 _ (ne_of ha_4 hp_2 (by simp))).trans ha_4
    have hp2_11 := (f9 _ (hne).symm).trans hp2_5
    have F12 := (F6).write (Or.inl ⟨_, hp_8⟩) f9 hpB (by simp)
    refine ev_aload_n dJ3_unlinkFirst_20 rfl ?_
    refine ev_aload_n dJ3_unlinkFirst_21 rfl ?_
    refine ev_putC [vz mc, vz ((((p, x) :: (p2, x2) :: t).length : Nat) : Int), .ref p2, lv] dJ3_unlinkFirst_22 gf_J3_18_J3 ha_10 hB (Or.inl rfl) rfl rfl (Nat.le_of_ble_eq_true rfl) rfl (fun hp_13 ha_14 f15 => ?_)
    have hp_16 := (f15 _ (ne_of hp_8 ha_10 (by simp))).trans hp_8
    have hp2_17 := (f15 _ (ne_of hp2_11 ha_10 (by simp))).trans hp2_11
    have F18 := (F12).write (Or.inl ⟨_, ha_14⟩) f15 hB (by simp)
    refine ev_aload_n dJ3_unlinkFirst_25 rfl ?_
    refine ev_ifnonnull (tgt := 37) dJ3_unlinkFirst_26 (by decide) ?_
    refine ev_aload_n dJ3_unlinkFirst_37 rfl ?_
    refine ev_null dJ3_unlinkFirst_38 ?_
    refine ev_putC [.ref x2, nx, .null] dJ3_unlinkFirst_39 gf_J3_30_J20 hp2_17 hp2B (Or.inl rfl) rfl rfl (Nat.le_of_ble_eq_true rfl) rfl (fun hp_19 hp2_20 f21 => ?_)
    have ha_22 := (f21 _ (ne_of ha_14 hp2_17 (by simp))).trans ha_14
    have hp_23 := (f21 _ hne).trans hp_16
    have F24 := (F18).write (Or.inl ⟨_, hp2_20⟩) f21 hp2B (by simp)
    refine ev_aload_n dJ3_unlinkFirst_42 rfl ?_
    refine ev_dup dJ3_unlinkFirst_43 rfl ?_
    refine ev_getf dJ3_unlinkFirst_44 gf_J3_7_J3 ha_22 rfl ?_
    refine ev_iconstZ dJ3_unlinkFirst_47 ?_
    refine ev_isubZ dJ3_unlinkFirst_48 ?_
    refine ev_putC [vz mc, vz (((((p, x) :: (p2, x2) :: t).length : Nat) : Int) - 1), .ref p2, lv] dJ3_unlinkFirst_49 gf_J3_7_J3 ha_22 hB (Or.inl rfl) rfl rfl (Nat.le_of_ble_eq_true rfl) rfl (fun hp_25 ha_26 f27 => ?_)
    have hp_28 := (f27 _ (ne_of hp_23 ha_22 (by simp))).trans hp_23
    have hp2_29 := (f27 _ (ne_of hp2_20 ha_22 (by simp))).trans hp2_20
    have F30 := (F24).write (Or.inl ⟨_, ha_26⟩) f27 hB (by simp)
    refine ev_aload_n dJ3_unlinkFirst_52 rfl ?_
    refine ev_dup dJ3_unlinkFirst_53 rfl ?_
    refine ev_getf dJ3_unlinkFirst_54 gf_J3_33_J3 ha_26 rfl ?_
    refine ev_iconstZ dJ3_unlinkFirst_57 ?_
    refine ev_iaddZ dJ3_unlinkFirst_58 ?_
    refine ev_putC [vz (mc + 1), vz (((((p, x) :: (p2, x2) :: t).length : Nat) : Int) - 1), .ref p2, lv] dJ3_unlinkFirst_59 gf_J3_33_J3 ha_26 hB (Or.inl rfl) rfl rfl (Nat.le_of_ble_eq_true rfl) rfl (fun hp_31 ha_32 f33 => ?_)
    have hp_34 := (f33 _ (ne_of hp_28 ha_26 (by simp))).trans hp_28
    have hp2_35 := (f33 _ (ne_of hp2_29 ha_26 (by simp))).trans hp2_29
    have F36 := (F30).write (Or.inl ⟨_, ha_32⟩) f33 hB (by simp)
    refine ev_aload_n dJ3_unlinkFirst_62 rfl ?_
    refine ev_areturn dJ3_unlinkFirst_63 rfl (Or.inl ⟨_, rfl⟩) (Or.inr ⟨_, rfl⟩) ?_
    refine ⟨_, rfl, rfl, ⟨?_, hB, ?_, (List.nodup_cons.mp H.2.2.2.1).2, fun r hr => H.2.2.2.2 r (List.mem_cons_of_mem _ hr)⟩, (F36).more ?_⟩
    · have r := ha_32; rw [elv] at r; rw [r]; show some (Sum.inr _) = some (Sum.inr _); rw [show vz ((((p, x) :: (p2, x2) :: t).length : Nat) - 1 : Int) = vz ((((p2, x2) :: t).length : Nat) : Int) by congr 1; simp]; rfl
    · intro i r y hi
      match i, hi with
      | 0, hi => cases hi; have r := hp2_35; rw [enx] at r; exact r
      | i + 1, hi =>
        refine (F36).keep (H.2.2.1 (i + 2) r y hi) ?_
        have hm : r ∈ t.map Prod.fst := LL.at (i := i) hi
        simp only [List.mem_cons, List.not_mem_nil, or_false, not_or]
        have hN := List.nodup_cons.mp H.2.2.2.1
        exact ⟨fun c => H.2.2.1.na H.1 (c ▸ List.mem_cons_of_mem _ (List.mem_cons_of_mem _ hm)), fun c => hN.1 (c ▸ List.mem_cons_of_mem _ hm), fun c => (List.nodup_cons.mp hN.2).1 (c ▸ hm)⟩
    · intro r hr
      simp only [List.mem_cons, List.not_mem_nil, or_false] at hr
      simp only [List.map_cons, List.mem_cons]
      rcases hr with c | c | c
      · exact Or.inl (Or.inl c)
      · exact Or.inl (Or.inr (Or.inl c))
      · exact Or.inl (Or.inr (Or.inr (Or.inl c)))
set_option maxRecDepth 100000 in
set_option maxHeartbeats 4000000 in
theorem ll_unlinkLast {a p x : Nat} {mc : Int} {t : List (Nat × Nat)} (H : LLh g h a mc (t ++ [(p, x)])) : Kc g mJ3_unlinkLast 0 (0) (0) [.ref a, .ref p] h (rR (fun r h' => r = some (.ref x) ∧ LLh g h' a (mc + 1) (t) ∧ Fr g h h' (a :: (t ++ [(p, x)]).map Prod.fst))) := by
  refine Kc.of (ls := [some (.ref a), some (.ref p), none, none]) (by decide +kernel) (Nat.le_of_ble_eq_true rfl) rfl ?_
  have hB := H.2.1
  rcases snocC t with rfl | ⟨t, ⟨p2, x2⟩, rfl⟩
  · have ha : h a = some (.inr (17, [vz mc, vz 1, .ref p, .ref p])) := H.1
    have hp : h p = some (.inr (27, [.ref x, .null, .null])) := H.2.2.1 0 p x rfl
    have hpB : gB g ≤ p := H.2.2.2.2 p (LL.at (i := 0) rfl)
    refine ev_aload_n dJ3_unlinkLast_0 rfl ?_
    refine ev_getf dJ3_unlinkLast_1 gf_J3_39_J20 hp rfl ?_
    refine ev_astore_n dJ3_unlinkLast_4 (by decide) rfl ?_
    dsimp only [List.set]
    refine ev_aload_n dJ3_unlinkLast_5 rfl ?_
    refine ev_getf dJ3_unlinkLast_6 gf_J3_30_J20 hp rfl ?_
    refine ev_astore_nN dJ3_unlinkLast_9 (by decide) rfl ?_
    dsimp only [List.set]
    refine ev_aload_n dJ3_unlinkLast_10 rfl ?_
    refine ev_null dJ3_unlinkLast_11 ?_
    refine ev_putC [.null, .null, .null] dJ3_unlinkLast_12 gf_J3_39_J20 hp hpB (Or.inl rfl) rfl rfl (Nat.le_of_ble_eq_true rfl) rfl (fun hp_1 hp_2 f3 => ?_)
    have ha_4 := (f3 _ (ne_of ha hp (by simp))).trans ha
    have F5 := ((Fr.refl (g := g) _ [a, p])).write (Or.inl ⟨_, hp_2⟩) f3 hpB (by simp)
    refine ev_aload_n dJ3_unlinkLast_15 rfl ?_
    refine ev_null dJ3_unlinkLast_16 ?_
    refine ev_putC [.null, .null, .null] dJ3_unlinkLast_17 gf_J3_30_J20 hp_2 hpB (Or.inl rfl) rfl rfl (Nat.le_of_ble_eq_true rfl) rfl (fun hp_6 hp_7 f8 => ?_)
    have ha_9 := (f8 _ (ne_of ha_4 hp_2 (by simp))).trans ha_4
    have F10 := (F5).write (Or.inl ⟨_, hp_7⟩) f8 hpB (by simp)
    refine ev_aload_n dJ3_unlinkLast_20 rfl ?_
    refine ev_aload_nN dJ3_unlinkLast_21 rfl ?_
    refine ev_putC [vz mc, vz 1, .ref p, .null] dJ3_unlinkLast_22 gf_J3_27_J3 ha_9 hB (Or.inl rfl) rfl rfl (Nat.le_of_ble_eq_true rfl) rfl (fun hp_11 ha_12 f13 => ?_)
    have hp_14 := (f13 _ (ne_of hp_7 ha_9 (by simp))).trans hp_7
    have F15 := (F10).write (Or.inl ⟨_, ha_12⟩) f13 hB (by simp)
    refine ev_aload_nN dJ3_unlinkLast_25 rfl ?_
    refine ev_ifnonnullN dJ3_unlinkLast_26 ?_
    refine ev_aload_n dJ3_unlinkLast_29 rfl ?_
    refine ev_null dJ3_unlinkLast_30 ?_
    refine ev_putC [vz mc, vz 1, .null, .null] dJ3_unlinkLast_31 gf_J3_18_J3 ha_12 hB (Or.inl rfl) rfl rfl (Nat.le_of_ble_eq_true rfl) rfl (fun hp_16 ha_17 f18 => ?_)
    have hp_19 := (f18 _ (ne_of hp_14 ha_12 (by simp))).trans hp_14
    have F20 := (F15).write (Or.inl ⟨_, ha_17⟩) f18 hB (by simp)
    refine ev_goto (tgt := 42) dJ3_unlinkLast_34 (by decide) ?_
    refine ev_aload_n dJ3_unlinkLast_42 rfl ?_
    refine ev_dup dJ3_unlinkLast_43 rfl ?_
    refine ev_getf dJ3_unlinkLast_44 gf_J3_7_J3 ha_17 rfl ?_
    refine ev_iconstZ dJ3_unlinkLast_47 ?_
    refine ev_isubZ dJ3_unlinkLast_48 ?_
    refine ev_putC [vz mc, vz (1 - 1), .null, .null] dJ3_unlinkLast_49 gf_J3_7_J3 ha_17 hB (Or.inl rfl) rfl rfl (Nat.le_of_ble_eq_true rfl) rfl (fun hp_21 ha_22 f23 => ?_)
    have hp_24 := (f23 _ (ne_of hp_19 ha_17 (by simp))).trans hp_19
    have F25 := (F20).write (Or.inl ⟨_, ha_22⟩) f23 hB (by simp)
    refine ev_aload_n dJ3_unlinkLast_52 rfl ?_
    refine ev_dup dJ3_unlinkLast_53 rfl ?_
    refine ev_getf dJ3_unlinkLast_54 gf_J3_33_J3 ha_22 rfl ?_
    refine ev_iconstZ dJ3_unlinkLast_57 ?_
    refine ev_iaddZ dJ3_unlinkLast_58 ?_
    refine ev_putC [vz (mc + 1), vz (1 - 1), .null, .null] dJ3_unlinkLast_59 gf_J3_33_J3 ha_22 hB (Or.inl rfl) rfl rfl (Nat.le_of_ble_eq_true rfl) rfl (fun hp_26 ha_27 f28 => ?_)
    have hp_29 := (f28 _ (ne_of hp_24 ha_22 (by simp))).trans hp_24
    have F30 := (F25).write (Or.inl ⟨_, ha_27⟩) f28 hB (by simp)
    refine ev_aload_n dJ3_unlinkLast_62 rfl ?_
    refine ev_areturn dJ3_unlinkLast_63 rfl (Or.inl ⟨_, rfl⟩) (Or.inr ⟨_, rfl⟩) ?_
    refine ⟨_, rfl, rfl, ⟨ha_27, hB, ?_, ?_, ?_⟩, (F30).more (llS2 (LL.at (i := 0) rfl))⟩
    · intro i r y hi; simp at hi
    · simp
    · intro r hr; simp at hr
  · obtain ⟨fv, efv⟩ : ∃ fv, fv = va_rf (((t ++ [(p2, x2)]) ++ [(p, x)]).head?.map Prod.fst) := ⟨_, rfl⟩
    obtain ⟨pv, epv⟩ : ∃ pv, pv = va_rf (pvO t t.length) := ⟨_, rfl⟩
    have ha : h a = some (.inr (17, [vz mc, vz (((t ++ [(p2, x2)]) ++ [(p, x)]).length : Nat), fv, .ref p])) := by have r := H.1; rw [List.getLast?_concat] at r; rw [efv]; exact r
    have hpv : pvO (t ++ [(p2, x2)]) (t.length + 1) = some p2 := by show ((t ++ [(p2, x2)])[t.length]?).map _ = _; rw [snoc_at]; rfl
    have hp : h p = some (.inr (27, [.ref x, .null, .ref p2])) := by have r := H.2.2.1 (t ++ [(p2, x2)]).length p x (snoc_at _ _); rw [snoc_end, pvO_snoc (Nat.le_refl _), snoc_len t] at r; rw [hpv] at r; exact r
    have hpB : gB g ≤ p := H.2.2.2.2 p (by simp)
    have hp2 : h p2 = some (.inr (27, [.ref x2, .ref p, pv])) := by have r := H.2.2.1 t.length p2 x2 (by rw [snoc_lt (by simp), snoc_at]); rw [pvO_snoc (by simp), pvO_snoc (Nat.le_refl _), show t.length + 1 = (t ++ [(p2, x2)]).length by simp, snoc_at] at r; rw [epv]; exact r
    have hp2B : gB g ≤ p2 := H.2.2.2.2 p2 (by simp)
    have hN2 : ((t ++ [(p2, x2)]).map Prod.fst).Nodup := by have r := H.2.2.2.1; rw [List.map_append, List.nodup_append] at r; exact r.1
    have hne : p ≠ p2 := fun c => snoc_nd H.2.2.2.1 (by rw [c]; simp)
    refine ev_aload_n dJ3_unlinkLast_0 rfl ?_
    refine ev_getf dJ3_unlinkLast_1 gf_J3_39_J20 hp rfl ?_
    refine ev_astore_n dJ3_unlinkLast_4 (by decide) rfl ?_
    dsimp only [List.set]
    refine ev_aload_n dJ3_unlinkLast_5 rfl ?_
    refine ev_getf dJ3_unlinkLast_6 gf_J3_30_J20 hp rfl ?_
    refine ev_astore_n dJ3_unlinkLast_9 (by decide) rfl ?_
    dsimp only [List.set]
    refine ev_aload_n dJ3_unlinkLast_10 rfl ?_
    refine ev_null dJ3_unlinkLast_11 ?_
    refine ev_putC [.null, .null, .ref p2] dJ3_unlinkLast_12 gf_J3_39_J20 hp hpB (Or.inl rfl) rfl rfl (Nat.le_of_ble_eq_true rfl) rfl (fun hp_1 hp_2 f3 => ?_)
    have ha_4 := (f3 _ (ne_of ha hp (by simp))).trans ha
    have hp2_5 := (f3 _ (hne).symm).trans hp2
    have F6 := ((Fr.refl (g := g) _ [a, p, p2])).write (Or.inl ⟨_, hp_2⟩) f3 hpB (by simp)
    refine ev_aload_n dJ3_unlinkLast_15 rfl ?_
    refine ev_null dJ3_unlinkLast_16 ?_
    refine ev_putC [.null, .null, .null] dJ3_unlinkLast_17 gf_J3_30_J20 hp_2 hpB (Or.inl rfl) rfl rfl (Nat.le_of_ble_eq_true rfl) rfl (fun hp_7 hp_8 f9 => ?_)
    have ha_10 := (f9 _ (ne_of ha_4 hp_2 (by simp))).trans ha_4
    have hp2_11 := (f9 _ (hne).symm).trans hp2_5
    have F12 := (F6).write (Or.inl ⟨_, hp_8⟩) f9 hpB (by simp)
    refine ev_aload_n dJ3_unlinkLast_20 rfl ?_
    refine ev_aload_n dJ3_unlinkLast_21 rfl ?_
    refine ev_putC [vz mc, vz (((t ++ [(p2, x2)]) ++ [(p, x)]).length : Nat), fv, .ref p2] dJ3_unlinkLast_22 gf_J3_27_J3 ha_10 hB (Or.inl rfl) rfl rfl (Nat.le_of_ble_eq_true rfl) rfl (fun hp_13 ha_14 f15 => ?_)
    have hp_16 := (f15 _ (ne_of hp_8 ha_10 (by simp))).trans hp_8
    have hp2_17 := (f15 _ (ne_of hp2_11 ha_10 (by simp))).trans hp2_11
    have F18 := (F12).write (Or.inl ⟨_, ha_14⟩) f15 hB (by simp)
    refine ev_aload_n dJ3_unlinkLast_25 rfl ?_
    refine ev_ifnonnull (tgt := 37) dJ3_unlinkLast_26 (by decide) ?_
    refine ev_aload_n dJ3_unlinkLast_37 rfl ?_
    refine ev_null dJ3_unlinkLast_38 ?_
    refine ev_putC [.ref x2, .null, pv] dJ3_unlinkLast_39 gf_J3_36_J20 hp2_17 hp2B (Or.inl rfl) rfl rfl (Nat.le_of_ble_eq_true rfl) rfl (fun hp_19 hp2_20 f21 => ?_)
    have ha_22 := (f21 _ (ne_of ha_14 hp2_17 (by simp))).trans ha_14
    have hp_23 := (f21 _ hne).trans hp_16
    have F24 := (F18).write (Or.inl ⟨_, hp2_20⟩) f21 hp2B (by simp)
    refine ev_aload_n dJ3_unlinkLast_42 rfl ?_
    refine ev_dup dJ3_unlinkLast_43 rfl ?_
    refine ev_getf dJ3_unlinkLast_44 gf_J3_7_J3 ha_22 rfl ?_
    refine ev_iconstZ dJ3_unlinkLast_47 ?_
    refine ev_isubZ dJ3_unlinkLast_48 ?_
    refine ev_putC [vz mc, vz ((((t ++ [(p2, x2)]) ++ [(p, x)]).length : Nat) - 1), fv, .ref p2] dJ3_unlinkLast_49 gf_J3_7_J3 ha_22 hB (Or.inl rfl) rfl rfl (Nat.le_of_ble_eq_true rfl) rfl (fun hp_25 ha_26 f27 => ?_)
    have hp_28 := (f27 _ (ne_of hp_23 ha_22 (by simp))).trans hp_23
    have hp2_29 := (f27 _ (ne_of hp2_20 ha_22 (by simp))).trans hp2_20
    have F30 := (F24).write (Or.inl ⟨_, ha_26⟩) f27 hB (by simp)
    refine ev_aload_n dJ3_unlinkLast_52 rfl ?_
    refine ev_dup dJ3_unlinkLast_53 rfl ?_
    refine ev_getf dJ3_unlinkLast_54 gf_J3_33_J3 ha_26 rfl ?_
    refine ev_iconstZ dJ3_unlinkLast_57 ?_
    refine ev_iaddZ dJ3_unlinkLast_58 ?_
    refine ev_putC [vz (mc + 1), vz ((((t ++ [(p2, x2)]) ++ [(p, x)]).length : Nat) - 1), fv, .ref p2] dJ3_unlinkLast_59 gf_J3_33_J3 ha_26 hB (Or.inl rfl) rfl rfl (Nat.le_of_ble_eq_true rfl) rfl (fun hp_31 ha_32 f33 => ?_)
    have hp_34 := (f33 _ (ne_of hp_28 ha_26 (by simp))).trans hp_28
    have hp2_35 := (f33 _ (ne_of hp2_29 ha_26 (by simp))).trans hp2_29
    have F36 := (F30).write (Or.inl ⟨_, ha_32⟩) f33 hB (by simp)
    refine ev_aload_n dJ3_unlinkLast_62 rfl ?_
    refine ev_areturn dJ3_unlinkLast_63 rfl (Or.inl ⟨_, rfl⟩) (Or.inr ⟨_, rfl⟩) ?_
    refine ⟨_, rfl, rfl, ⟨?_, hB, ?_, ?_, fun r hr => H.2.2.2.2 r (by rw [List.map_append]; exact List.mem_append_left _ hr)⟩, (F36).more ?_⟩
    · have r := ha_32; rw [efv, snoc_hd] at r; rw [r, List.getLast?_concat, snoc_len (t ++ [(p2, x2)])]; show some (Sum.inr _) = some (Sum.inr _); rw [show vz (((t ++ [(p2, x2)]).length + 1 : Nat) - 1 : Int) = vz (((t ++ [(p2, x2)]).length : Nat) : Int) by congr 1; simp]; rfl
    · intro i r y hi
      by_cases c1 : i < t.length
      · rw [snoc_lt c1] at hi
        have r1 := H.2.2.1 i r y (by rw [snoc_lt (by simp; omega), snoc_lt c1]; exact hi)
        rw [pvO_snoc (by simp; omega), snoc_lt (by simp; omega)] at r1
        refine (F36).keep r1 ?_
        have hm : r ∈ t.map Prod.fst := LL.at (i := i) hi
        simp only [List.mem_cons, List.not_mem_nil, or_false, not_or]
        exact ⟨fun c => H.2.2.1.na H.1 (c ▸ (by rw [List.map_append, List.map_append]; exact List.mem_append_left _ (List.mem_append_left _ hm))), fun c => snoc_nd H.2.2.2.1 (c ▸ (by rw [List.map_append]; exact List.mem_append_left _ hm)), fun c => snoc_nd hN2 (c ▸ hm)⟩
      · have c3 : i = t.length := by have := (List.getElem?_eq_some_iff.mp hi).1; simp at this; omega
        subst c3
        rw [snoc_at] at hi
        cases hi
        have r := hp2_35
        rw [r, snoc_end, pvO_snoc (Nat.le_refl _), epv]; rfl
    · exact hN2
    · intro r hr
      simp only [List.mem_cons, List.not_mem_nil, or_false] at hr
      simp only [List.map_append, List.map_cons, List.map_nil, List.mem_cons, List.mem_append, List.not_mem_nil, or_false]
      rcases hr with c | c | c
      · exact Or.inl (Or.inl c)
      · exact Or.inl (Or.inr (Or.inr c))
      · exact Or.inl (Or.inr (Or.inl (Or.inr c)))
set_option maxRecDepth 100000 in
set_option maxHeartbeats 4000000 in
theorem ll_addFirst {a e : Nat} {mc : Int} {L : List (Nat × Nat)} (H : LLh g h a mc L) : Kc g mJ3_addFirst 3 (1) (3) [.ref a, .ref e] h (rR (fun r h' => r = none ∧ ∃ q : Nat, h q = none ∧ gB g ≤ q ∧ LLh g h' a (mc + 1) ((q, e) :: L) ∧ Fr g h h' (a :: L.map Prod.fst))) := by
  refine Kc.of (ls := [some (.ref a), some (.ref e)]) (by decide +kernel) (Nat.le_of_ble_eq_true rfl) rfl ?_
  have ha : h a = some (.inr (17, [vz mc, vz (L.length : Nat), va_rf (L.head?.map Prod.fst), va_rf (L.getLast?.map Prod.fst)])) := H.1
  refine ev_aload_n dJ3_addFirst_0 rfl ?_
  refine ev_aload_n dJ3_addFirst_1 rfl ?_
  refine ev_callVR dJ3_addFirst_2 cv_J3_53_J3 ce_J3_linkFirst ha rfl rfl rfl (ll_linkFirst H) (by omega) (by omega) (by omega) (Nat.le_of_ble_eq_true rfl) (fun v1 hp_1 P1 => ?_)
  obtain ⟨rfl, q, e1, B1, H1, fr1⟩ := P1
  have F2 := ((Fr.refl (g := g) _ (a :: L.map Prod.fst))).call fr1 (fun x hx => Or.inl hx)
  refine ev_return dJ3_addFirst_5 rfl ?_
  exact ⟨_, rfl, rfl, q, e1, B1, H1, F2⟩
set_option maxRecDepth 100000 in
set_option maxHeartbeats 4000000 in
theorem ll_addLast {a e : Nat} {mc : Int} {L : List (Nat × Nat)} (H : LLh g h a mc L) : Kc g mJ3_addLast 3 (1) (3) [.ref a, .ref e] h (rR (fun r h' => r = none ∧ ∃ q : Nat, h q = none ∧ gB g ≤ q ∧ LLh g h' a (mc + 1) (L ++ [(q, e)]) ∧ Fr g h h' (a :: L.map Prod.fst))) := by
  refine Kc.of (ls := [some (.ref a), some (.ref e)]) (by decide +kernel) (Nat.le_of_ble_eq_true rfl) rfl ?_
  have ha : h a = some (.inr (17, [vz mc, vz (L.length : Nat), va_rf (L.head?.map Prod.fst), va_rf (L.getLast?.map Prod.fst)])) := H.1
  refine ev_aload_n dJ3_addLast_0 rfl ?_
  refine ev_aload_n dJ3_addLast_1 rfl ?_
  refine ev_callVR dJ3_addLast_2 cv_J3_57_J3 ce_J3_linkLast ha rfl rfl rfl (ll_linkLast H) (by omega) (by omega) (by omega) (Nat.le_of_ble_eq_true rfl) (fun v1 hp_1 P1 => ?_)
  obtain ⟨rfl, q, e1, B1, H1, fr1⟩ := P1
  have F2 := ((Fr.refl (g := g) _ (a :: L.map Prod.fst))).call fr1 (fun x hx => Or.inl hx)
  refine ev_return dJ3_addLast_5 rfl ?_
  exact ⟨_, rfl, rfl, q, e1, B1, H1, F2⟩
set_option maxRecDepth 100000 in
set_option maxHeartbeats 4000000 in
theorem ll_removeFirst {a p x : Nat} {mc : Int} {t : List (Nat × Nat)} (H : LLh g h a mc ((p, x) :: t)) : Kc g mJ3_removeFirst 1 (0) (0) [.ref a] h (rR (fun r h' => r = some (.ref x) ∧ LLh g h' a (mc + 1) (t) ∧ Fr g h h' (a :: ((p, x) :: t).map Prod.fst))) := by
  refine Kc.of (ls := [some (.ref a), none]) (by decide +kernel) (Nat.le_of_ble_eq_true rfl) rfl ?_
  obtain ⟨n, lv, ha⟩ : ∃ (n : Int) (lv : Value), h a = some (.inr (17, [vz mc, vz n, .ref p, lv])) := ⟨_, _, by have r := H.1; exact r⟩
  refine ev_aload_n dJ3_removeFirst_0 rfl ?_
  refine ev_getf dJ3_removeFirst_1 gf_J3_18_J3 ha rfl ?_
  refine ev_astore_n dJ3_removeFirst_4 (by decide) rfl ?_
  dsimp only [List.set]
  refine ev_aload_n dJ3_removeFirst_5 rfl ?_
  refine ev_ifnonnull (tgt := 17) dJ3_removeFirst_6 (by decide) ?_
  refine ev_aload_n dJ3_removeFirst_17 rfl ?_
  refine ev_aload_n dJ3_removeFirst_18 rfl ?_
  refine ev_callVR dJ3_removeFirst_19 cv_J3_46_J3 ce_J3_unlinkFirst ha rfl rfl rfl (ll_unlinkFirst H) (by omega) (by omega) (by omega) (Nat.le_of_ble_eq_true rfl) (fun v1 hp_1 P1 => ?_)
  obtain ⟨rfl, H1, fr1⟩ := P1
  have F2 := ((Fr.refl (g := g) _ (a :: ((p, x) :: t).map Prod.fst))).call fr1 (fun x hx => Or.inl hx)
  refine ev_areturn dJ3_removeFirst_22 rfl (Or.inl ⟨_, rfl⟩) (Or.inr ⟨_, rfl⟩) ?_
  exact ⟨_, rfl, rfl, H1, F2⟩
set_option maxRecDepth 100000 in
set_option maxHeartbeats 4000000 in
theorem ll_removeLast {a p x : Nat} {mc : Int} {t : List (Nat × Nat)} (H : LLh g h a mc (t ++ [(p, x)])) : Kc g mJ3_removeLast 1 (0) (0) [.ref a] h (rR (fun r h' => r = some (.ref x) ∧ LLh g h' a (mc + 1) (t) ∧ Fr g h h' (a :: (t ++ [(p, x)]).map Prod.fst))) := by
  refine Kc.of (ls := [some (.ref a), none]) (by decide +kernel) (Nat.le_of_ble_eq_true rfl) rfl ?_
  obtain ⟨n, fv, ha⟩ : ∃ (n : Int) (fv : Value), h a = some (.inr (17, [vz mc, vz n, fv, .ref p])) := ⟨_, _, by have r := H.1; rw [List.getLast?_concat] at r; exact r⟩
  refine ev_aload_n dJ3_removeLast_0 rfl ?_
  refine ev_getf dJ3_removeLast_1 gf_J3_27_J3 ha rfl ?_
  refine ev_astore_n dJ3_removeLast_4 (by decide) rfl ?_
  dsimp only [List.set]
  refine ev_aload_n dJ3_removeLast_5 rfl ?_
  refine ev_ifnonnull (tgt := 17) dJ3_removeLast_6 (by decide) ?_
  refine ev_aload_n dJ3_removeLast_17 rfl ?_
  refine ev_aload_n dJ3_removeLast_18 rfl ?_
  refine ev_callVR dJ3_removeLast_19 cv_J3_50_J3 ce_J3_unlinkLast ha rfl rfl rfl (ll_unlinkLast H) (by omega) (by omega) (by omega) (Nat.le_of_ble_eq_true rfl) (fun v1 hp_1 P1 => ?_)
  obtain ⟨rfl, H1, fr1⟩ := P1
  have F2 := ((Fr.refl (g := g) _ (a :: (t ++ [(p, x)]).map Prod.fst))).call fr1 (fun x hx => Or.inl hx)
  refine ev_areturn dJ3_removeLast_22 rfl (Or.inl ⟨_, rfl⟩) (Or.inr ⟨_, rfl⟩) ?_
  exact ⟨_, rfl, rfl, H1, F2⟩
set_option maxRecDepth 100000 in
set_option maxHeartbeats 4000000 in
theorem ll_size {a : Nat} {n mc : Int} {f l : Value} (ha : h a = some (.inr (17, [vz mc, vz n, f, l]))) : Kc g mJ3_size 0 (0) (0) [.ref a] h (sR (some (vz n)) h) := by
  refine Kc.of (ls := [some (.ref a)]) (by decide +kernel) (Nat.le_of_ble_eq_true rfl) rfl ?_
  refine ev_aload_n dJ3_size_0 rfl ?_
  refine ev_getf dJ3_size_1 gf_J3_7_J3 ha rfl ?_
  refine ev_ireturn dJ3_size_4 rfl ?_
  exact ⟨rfl, rfl⟩
set_option maxRecDepth 100000 in
set_option maxHeartbeats 4000000 in
theorem ll_isEmpty {a n : Nat} {mc : Int} {f l : Value} (ha : h a = some (.inr (17, [vz mc, vz (n : Nat), f, l]))) (hn : n < 2147483648) : Kc g mJ0_isEmpty 1 (0) (0) [.ref a] h (sR (some (vz (if n = 0 then 1 else 0))) h) := by
  refine Kc.of (ls := [some (.ref a)]) (by decide +kernel) (Nat.le_of_ble_eq_true rfl) rfl ?_
  refine ev_aload_n dJ0_isEmpty_0 rfl ?_
  refine ev_callVE dJ0_isEmpty_1 cv_J0_7_J3 ce_J3_size ha rfl rfl rfl (ll_size ha) (by omega) (Nat.le_of_ble_eq_true rfl) ?_
  refine ev_if_neZ (tgt := 11) dJ0_isEmpty_4 (by decide) (by omega) (fun c4 => ?_) (fun c4 => ?_)
  · refine ev_iconstZ dJ0_isEmpty_11 ?_
    refine ev_zreturn dJ0_isEmpty_12 rfl rfl ?_
    exact ⟨by first | rw [if_pos (by omega)] | rw [if_neg (by omega)], rfl⟩
  · refine ev_iconstZ dJ0_isEmpty_7 ?_
    refine ev_goto (tgt := 12) dJ0_isEmpty_8 (by decide) ?_
    refine ev_zreturn dJ0_isEmpty_12 rfl rfl ?_
    exact ⟨by first | rw [if_pos (by omega)] | rw [if_neg (by omega)], rfl⟩
set_option maxRecDepth 100000 in
set_option maxHeartbeats 4000000 in
theorem k_J2i {a : Nat} {x y z w : Value} (ha : h a = some (.inr (17, [x, y, z, w]))) (hB : gB g ≤ a) : Kc g mJ2_init 3 (0) (0) [.ref a] h (rR (fun r h' => r = none ∧ h' a = some (.inr (17, [vz 0, y, z, w])) ∧ Fr g h h' [a])) := by
  refine Kc.of (ls := [some (.ref a)]) (by decide +kernel) (Nat.le_of_ble_eq_true rfl) rfl ?_
  refine ev_aload_n dJ2_init_0 rfl ?_
  refine ev_callVR dJ2_init_1 ci_J2_1 ce_J1_init ha rfl rfl rfl (k_J1iJ3 ha hB) (by omega) (by omega) (by omega) (Nat.le_of_ble_eq_true rfl) (fun v1 hp_1 P1 => ?_)
  obtain ⟨rfl, H1, fr1⟩ := P1
  have F2 := ((Fr.refl (g := g) _ [a])).call fr1 (fun x hx => Or.inl hx)
  refine ev_return dJ2_init_4 rfl ?_
  exact ⟨_, rfl, rfl, H1, F2⟩
set_option maxRecDepth 100000 in
set_option maxHeartbeats 4000000 in
theorem ll_init {a : Nat} {x y : Value} (ha : h a = some (.inr (17, [x, y, .null, .null]))) (hB : gB g ≤ a) : Kc g mJ3_init 4 (0) (0) [.ref a] h (rR (fun r h' => r = none ∧ LLh g h' a 0 [] ∧ Fr g h h' [a])) := by
  refine Kc.of (ls := [some (.ref a)]) (by decide +kernel) (Nat.le_of_ble_eq_true rfl) rfl ?_
  refine ev_aload_n dJ3_init_0 rfl ?_
  refine ev_callVR dJ3_init_1 ci_J3_1 ce_J2_init ha rfl rfl rfl (k_J2i ha hB) (by omega) (by omega) (by omega) (Nat.le_of_ble_eq_true rfl) (fun v1 hp_1 P1 => ?_)
  obtain ⟨rfl, H1, fr1⟩ := P1
  have F2 := ((Fr.refl (g := g) _ [a])).call fr1 (fun x hx => Or.inl hx)
  refine ev_aload_n dJ3_init_4 rfl ?_
  refine ev_iconstZ dJ3_init_5 ?_
  refine ev_putC [vz 0, vz 0, .null, .null] dJ3_init_6 gf_J3_7_J3 H1 hB (Or.inl rfl) rfl rfl (Nat.le_of_ble_eq_true rfl) rfl (fun hp_3 H1_4 f5 => ?_)
  have F6 := (F2).write (Or.inl ⟨_, H1_4⟩) f5 hB (by simp)
  refine ev_return dJ3_init_9 rfl ?_
  exact ⟨_, rfl, rfl, ⟨H1_4, hB, fun i p x hi => by simp at hi, by simp, fun p hp => by simp at hp⟩, F6⟩
end J4S

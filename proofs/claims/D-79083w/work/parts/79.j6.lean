/-! THE COMPONENT: LinkedList, clear, toArray, copies (printed by gen) -/
section J6S
variable {g : GB} {M : MI} {d c k : Nat} {h : HM}
section
variable {Q : RS → HM → Prop} {pc : Nat} {ls : List (Option Value)} {st : List Value}
/-- a loop with a measure that allocates -/
theorem ev_whileB {X : Type} (m C K : X → Nat) (P : X → HM → Prop) (L : X → List (Option Value)) (x : X) (hP : P x h) (hc : C x ≤ c) (hk : K x ≤ k) (hl : wkL (L x) ls)
    (step : ∀ (x : X) (h : HM), P x h → (∀ (y : X) (ls' : List (Option Value)) (h' : HM) (c' k' : Nat), m y < m x → C y ≤ c' → K y ≤ k' → wkL (L y) ls' → P y h' → Ev g M d c' k' Q pc ls' st h') → Ev g M d (C x) (K x) Q pc (L x) st h) : Ev g M d c k Q pc ls st h := by
  refine Ev.forget ?_ hl
  refine Ev.le hc hk ?_
  have key : ∀ (n : Nat) (x : X) (h : HM), m x < n → P x h → Ev g M d (C x) (K x) Q pc (L x) st h := by
    intro n
    induction n with
    | zero => intro x h e; omega
    | succ n ih => intro x h e hp; exact step x h hp (fun y ls' h' c' k' e' h1 h2 hw hp' => Ev.le h1 h2 (Ev.forget (ih y h' (by omega) hp') hw))
  exact key (m x + 1) x h (Nat.lt_succ_self _) hP
end
theorem nd_ne {L : List (Nat × Nat)} (hn : (L.map Prod.fst).Nodup) {i j p x r y : Nat} (hij : i < j) (hi : L[i]? = some (p, x)) (hj : L[j]? = some (r, y)) : r ≠ p := by
  intro c
  subst c
  have h1 := (List.getElem?_eq_some_iff.mp hi)
  have h2 := (List.getElem?_eq_some_iff.mp hj)
  obtain ⟨l1, e1⟩ := h1
  obtain ⟨l2, e2⟩ := h2
  have := (List.pairwise_iff_getElem.mp hn) i j (by simpa using l1) (by simpa using l2) hij
  apply this
  rw [List.getElem_map, List.getElem_map, e1, e2]
set_option maxRecDepth 100000 in
set_option maxHeartbeats 4000000 in
theorem ll_clear {a : Nat} {mc : Int} {L : List (Nat × Nat)} (H : LLh g h a mc L) : Kc g mJ3_clear 0 (0) (0) [.ref a] h (rR (fun r h' => r = none ∧ LLh g h' a (mc + 1) [] ∧ Fr g h h' (a :: L.map Prod.fst))) := by
  refine Kc.of (ls := [some (.ref a), none, none]) (by decide +kernel) (Nat.le_of_ble_eq_true rfl) rfl ?_
  obtain ⟨f, ef⟩ : ∃ f, f = va_rf (L.head?.map Prod.fst) := ⟨_, rfl⟩
  obtain ⟨l, el⟩ : ∃ l, l = va_rf (L.getLast?.map Prod.fst) := ⟨_, rfl⟩
  have ha : h a = some (.inr (17, [vz mc, vz (L.length : Nat), f, l])) := by rw [ef, el]; exact H.1
  have hB := H.2.1
  rw [ef] at ha
  refine ev_aload_n dJ3_clear_0 rfl ?_
  refine ev_getf dJ3_clear_1 gf_J3_18_J3 ha rfl ?_
  refine ev_astore_nR dJ3_clear_4 (by decide) rfl ?_
  dsimp only [List.set]
  refine ev_for (st := []) L.length (fun i h1 => Fr g h h1 (a :: L.map Prod.fst) ∧ h1 a = some (.inr (17, [vz mc, vz (L.length : Nat), f, l])) ∧ ∀ j p x : Nat, i ≤ j → L[j]? = some (p, x) → h1 p = some (lnC x ((L[j + 1]?).map Prod.fst) (pvO L j))) (fun i => [some (.ref a), some (va_rf ((L[i]?).map Prod.fst)), none]) 0 (Nat.zero_le _) ⟨Fr.refl _ _, by rw [ef]; exact ha, fun j p x _ hj => H.2.2.1 j p x hj⟩ ⟨rfl, by rw [List.head?_eq_getElem?], trivial⟩ (fun i h1 _ hi ⟨F0, ha1, hN⟩ hK => ?_) (fun h1 ⟨F0, ha1, hN⟩ => ?_)
  · obtain ⟨⟨p, x⟩, hpx⟩ : ∃ y, L[i]? = some y := ⟨_, List.getElem?_eq_getElem hi⟩
    obtain ⟨pv, epv⟩ : ∃ pv, pv = va_rf (pvO L i) := ⟨_, rfl⟩
    have hp : h1 p = some (.inr (27, [.ref x, va_rf ((L[i + 1]?).map Prod.fst), pv])) := by rw [epv]; exact hN i p x (Nat.le_refl _) hpx
    have hpB : gB g ≤ p := H.2.2.2.2 p (LL.at hpx)
    refine Ev.forget (ls' := [some (.ref a), some (.ref p), none]) ?_ ⟨rfl, by rw [hpx]; rfl, trivial⟩
    refine ev_aload_n dJ3_clear_5 rfl ?_
    refine ev_ifnull dJ3_clear_6 ?_
    refine ev_aload_n dJ3_clear_9 rfl ?_
    refine ev_getf dJ3_clear_10 gf_J3_36_J20 hp rfl ?_
    refine ev_astore_nR dJ3_clear_13 (by decide) rfl ?_
    dsimp only [List.set]
    refine ev_aload_n dJ3_clear_14 rfl ?_
    refine ev_null dJ3_clear_15 ?_
    refine ev_putC [.null, va_rf ((L[i + 1]?).map Prod.fst), pv] dJ3_clear_16 gf_J3_39_J20 hp hpB (Or.inl rfl) rfl rfl (Nat.le_of_ble_eq_true rfl) rfl (fun hp_1 hp_2 f3 => ?_)
    have F4 := ((Fr.refl (g := g) _ [p])).write (Or.inl ⟨_, hp_2⟩) f3 hpB (by simp)
    refine ev_aload_n dJ3_clear_19 rfl ?_
    refine ev_null dJ3_clear_20 ?_
    refine ev_putC [.null, .null, pv] dJ3_clear_21 gf_J3_36_J20 hp_2 hpB (Or.inl rfl) rfl rfl (Nat.le_of_ble_eq_true rfl) rfl (fun hp_5 hp_6 f7 => ?_)
    have F8 := (F4).write (Or.inl ⟨_, hp_6⟩) f7 hpB (by simp)
    refine ev_aload_n dJ3_clear_24 rfl ?_
    refine ev_null dJ3_clear_25 ?_
    refine ev_putC [.null, .null, .null] dJ3_clear_26 gf_J3_30_J20 hp_6 hpB (Or.inl rfl) rfl rfl (Nat.le_of_ble_eq_true rfl) rfl (fun hp_9 hp_10 f11 => ?_)
    have F12 := (F8).write (Or.inl ⟨_, hp_10⟩) f11 hpB (by simp)
    refine ev_aload_nR dJ3_clear_29 rfl ?_
    refine ev_astore_nR dJ3_clear_30 (by decide) rfl ?_
    dsimp only [List.set]
    refine ev_goto (tgt := 5) dJ3_clear_31 (by decide) ?_
    refine hK _ _ (by repeat' first | exact rfl | exact trivial | exact vz_eq (by omega) | refine And.intro ?_ ?_) ⟨F0.call F12 (fun z hz => Or.inl (by rw [List.mem_singleton.mp hz]; exact List.mem_cons_of_mem _ (LL.at hpx))), (F12).keep ha1 (fun c => H.2.2.1.na H.1 (by rw [List.mem_singleton.mp c]; exact LL.at hpx)), fun j r y hj hr => (F12).keep (hN j r y (by omega) hr) (fun c => ?_)⟩
    obtain rfl := List.mem_singleton.mp c
    exact nd_ne H.2.2.2.1 (by omega : i < j) hpx hr rfl
  · refine Ev.forget (ls' := [some (.ref a), some .null, none]) ?_ ⟨rfl, by rw [List.getElem?_eq_none (Nat.le_refl _)]; rfl, trivial⟩
    refine ev_aload_nN dJ3_clear_5 rfl ?_
    refine ev_ifnullN (tgt := 34) dJ3_clear_6 (by decide) ?_
    refine ev_aload_n dJ3_clear_34 rfl ?_
    refine ev_aload_n dJ3_clear_35 rfl ?_
    refine ev_null dJ3_clear_36 ?_
    refine ev_dup_x1 dJ3_clear_37 rfl rfl ?_
    refine ev_putC [vz mc, vz (L.length : Nat), f, .null] dJ3_clear_38 gf_J3_27_J3 ha1 hB (Or.inl rfl) rfl rfl (Nat.le_of_ble_eq_true rfl) rfl (fun hp_1 ha1_2 f3 => ?_)
    have F4 := ((Fr.refl (g := g) _ [a])).write (Or.inl ⟨_, ha1_2⟩) f3 hB (by simp)
    refine ev_putC [vz mc, vz (L.length : Nat), .null, .null] dJ3_clear_41 gf_J3_18_J3 ha1_2 hB (Or.inl rfl) rfl rfl (Nat.le_of_ble_eq_true rfl) rfl (fun hp_5 ha1_6 f7 => ?_)
    have F8 := (F4).write (Or.inl ⟨_, ha1_6⟩) f7 hB (by simp)
    refine ev_aload_n dJ3_clear_44 rfl ?_
    refine ev_iconstZ dJ3_clear_45 ?_
    refine ev_putC [vz mc, vz 0, .null, .null] dJ3_clear_46 gf_J3_7_J3 ha1_6 hB (Or.inl rfl) rfl rfl (Nat.le_of_ble_eq_true rfl) rfl (fun hp_9 ha1_10 f11 => ?_)
    have F12 := (F8).write (Or.inl ⟨_, ha1_10⟩) f11 hB (by simp)
    refine ev_aload_n dJ3_clear_49 rfl ?_
    refine ev_dup dJ3_clear_50 rfl ?_
    refine ev_getf dJ3_clear_51 gf_J3_33_J3 ha1_10 rfl ?_
    refine ev_iconstZ dJ3_clear_54 ?_
    refine ev_iaddZ dJ3_clear_55 ?_
    refine ev_putC [vz (mc + 1), vz 0, .null, .null] dJ3_clear_56 gf_J3_33_J3 ha1_10 hB (Or.inl rfl) rfl rfl (Nat.le_of_ble_eq_true rfl) rfl (fun hp_13 ha1_14 f15 => ?_)
    have F16 := (F12).write (Or.inl ⟨_, ha1_14⟩) f15 hB (by simp)
    refine ev_return dJ3_clear_59 rfl ?_
    exact ⟨_, rfl, rfl, ⟨ha1_14, hB, fun i p x hi => by simp at hi, by simp, fun p hp => by simp at hp⟩, F0.call F16 (fun z hz => Or.inl (by rw [List.mem_singleton.mp hz]; exact List.mem_cons_self))⟩
set_option maxRecDepth 100000 in
set_option maxHeartbeats 4000000 in
theorem ll_toArray {a : Nat} {mc : Int} {L : List (Nat × Nat)} (hG : GKx g) (H : LLh g h a mc L) (hn : L.length < 1000000) (hel : ∀ e ∈ L.map Prod.snd, isO h e) : Kc g mJ3_toArray 0 (1) (L.length) [.ref a] h (rR (fun r h' => ∃ (q : Nat) (f : Nat → Option Nat), r = some (.ref q) ∧ h q = none ∧ gB g ≤ q ∧ h' q = some (.inl (9, (L.length, .inr (.inr (.inr (.inr (f))))))) ∧ (∀ j : Nat, j < L.length → f j = (L[j]?).map Prod.snd) ∧ Fr g h h' [])) := by
  refine Kc.of (ls := [some (.ref a), none, none, none]) (by decide +kernel) (Nat.le_of_ble_eq_true rfl) rfl ?_
  obtain ⟨f, ef⟩ : ∃ f, f = va_rf (L.head?.map Prod.fst) := ⟨_, rfl⟩
  obtain ⟨l, el⟩ : ∃ l, l = va_rf (L.getLast?.map Prod.fst) := ⟨_, rfl⟩
  have ha : h a = some (.inr (17, [vz mc, vz (L.length : Nat), f, l])) := by rw [ef, el]; exact H.1
  have hB := H.2.1
  rw [ef] at ha
  refine ev_aload_n dJ3_toArray_0 rfl ?_
  refine ev_getf dJ3_toArray_1 gf_J3_7_J3 ha rfl ?_
  refine ev_anewOY (N := L.length) (c' := 0) (k' := 0) hG dJ3_toArray_4 q1394 (by omega) (by omega) (by omega) (by omega) (by omega) (fun q1 hp_2 e3 B4 Hq1_5 f6 => ?_)
  have ha_7 := (f6 _ (ne_no ha e3)).trans ha
  have z8 := ((Fr.refl (g := g) _ [])).fresh e3
  have F9 := ((Fr.refl (g := g) _ [])).alloc (Or.inr ⟨_, Hq1_5, Nat.le_of_ble_eq_true rfl⟩) f6 e3
  refine ev_astore_n dJ3_toArray_7 (by decide) rfl ?_
  dsimp only [List.set]
  refine ev_iconstZ dJ3_toArray_8 ?_
  refine ev_istore_n dJ3_toArray_9 (by decide) rfl ?_
  dsimp only [List.set]
  refine ev_aload_n dJ3_toArray_10 rfl ?_
  refine ev_getf dJ3_toArray_11 gf_J3_18_J3 ha_7 rfl ?_
  refine ev_astore_nR dJ3_toArray_14 (by decide) rfl ?_
  dsimp only [List.set]
  have hq0 := z8
  have hqB := B4
  refine ev_for (st := []) L.length (fun i h1 => Fr g h h1 [] ∧ ∃ fa : Nat → Option Nat, h1 q1 = some (.inl (9, (L.length, .inr (.inr (.inr (.inr (fa))))))) ∧ ∀ j : Nat, j < i → fa j = (L[j]?).map Prod.snd) (fun i => [some (.ref a), some (.ref q1), some (vz (i : Nat)), some (va_rf ((L[i]?).map Prod.fst))]) 0 (Nat.zero_le _) ⟨F9, _, Hq1_5, fun j hj => by omega⟩ ⟨rfl, rfl, rfl, by rw [List.head?_eq_getElem?], trivial⟩ (fun i h1 _ hi ⟨F0, fa, hq, hfa⟩ hK => ?_) (fun h1 ⟨F0, fa, hq, hfa⟩ => ?_)
  · have FB := F0
    obtain ⟨⟨p, x⟩, hpx⟩ : ∃ y, L[i]? = some y := ⟨_, List.getElem?_eq_getElem hi⟩
    obtain ⟨pv, epv⟩ : ∃ pv, pv = va_rf (pvO L i) := ⟨_, rfl⟩
    have hp : h1 p = some (.inr (27, [.ref x, va_rf ((L[i + 1]?).map Prod.fst), pv])) := by rw [epv]; exact F0.keep (H.2.2.1 i p x hpx) (fun c => by cases c)
    refine Ev.forget (ls' := [some (.ref a), some (.ref q1), some (vz (i : Nat)), some (.ref p)]) ?_ ⟨rfl, rfl, rfl, by rw [hpx]; rfl, trivial⟩
    refine ev_aload_n dJ3_toArray_15 rfl ?_
    refine ev_ifnull dJ3_toArray_16 ?_
    refine ev_aload_n dJ3_toArray_19 rfl ?_
    refine ev_iload_n dJ3_toArray_20 rfl ?_
    refine ev_iincZ dJ3_toArray_21 rfl (by decide) rfl ?_
    dsimp only [List.set]
    refine ev_aload_n dJ3_toArray_24 rfl ?_
    refine ev_getf dJ3_toArray_25 gf_J3_39_J20 hp rfl ?_
    refine ev_aastY dJ3_toArray_28 hq hqB (by omega) (F0.o (hel x (List.mem_map.mpr ⟨(p, x), List.mem_of_getElem? hpx, rfl⟩))) (fun hp_1 hq_2 f3 => ?_)
    have hp_4 := (f3 _ (ne_of hp hq (by simp))).trans hp
    have F5 := ((Fr.refl (g := g) _ [q1])).write (Or.inr ⟨_, hq_2, Nat.le_of_ble_eq_true rfl⟩) f3 hqB (by simp)
    refine ev_aload_n dJ3_toArray_29 rfl ?_
    refine ev_getf dJ3_toArray_30 gf_J3_36_J20 hp_4 rfl ?_
    refine ev_astore_nR dJ3_toArray_33 (by decide) rfl ?_
    dsimp only [List.set]
    refine ev_goto (tgt := 15) dJ3_toArray_34 (by decide) ?_
    refine hK _ _ (by repeat' first | exact rfl | exact trivial | exact vz_eq (by omega) | refine And.intro ?_ ?_) ⟨(FB.call F5 (fun z hz => Or.inr (Or.inl (by rw [List.mem_singleton.mp hz]; exact hq0)))), _, hq_2, fun j hj => ?_⟩
    rw [Int.toNat_natCast]
    unfold va_up
    by_cases cj : j = i
    · rw [if_pos cj, cj, hpx]; rfl
    · rw [if_neg cj, hfa j (by omega)]
  · refine Ev.forget (ls' := [some (.ref a), some (.ref q1), none, some .null]) ?_ ⟨rfl, rfl, by rw [List.getElem?_eq_none (Nat.le_refl _)]; rfl, trivial⟩
    refine ev_aload_nN dJ3_toArray_15 rfl ?_
    refine ev_ifnullN (tgt := 37) dJ3_toArray_16 (by decide) ?_
    refine ev_aload_n dJ3_toArray_37 rfl ?_
    refine ev_areturn dJ3_toArray_38 rfl (Or.inr ⟨_, rfl⟩) (Or.inr ⟨_, rfl⟩) ?_
    exact ⟨_, rfl, q1, fa, rfl, hq0, hqB, hq, hfa, F0⟩
end J6S

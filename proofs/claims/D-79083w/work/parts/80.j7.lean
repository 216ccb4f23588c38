/-! THE COMPONENT: the copy of a LinkedList (printed by gen) -/
section J7S
variable {g : GB} {M : MI} {d c k : Nat} {h : HM}
/-- a list that is being copied -/
def cpI (g : GB) (h h1 : HM) (a : Nat) (L L1 : List (Nat × Nat)) : Prop :=
  L1.length ≤ L.length ∧ L1.map Prod.snd = (L.map Prod.snd).take L1.length ∧ Fr g h h1 [a] ∧ h1 a = some (.inr (17, [vz 0, vz ((0 : Nat) : Int), va_rf (L1.head?.map Prod.fst), .null])) ∧ LL h1 L1 ∧ (L1.map Prod.fst).Nodup ∧ ∀ p ∈ L1.map Prod.fst, gB g ≤ p ∧ h p = none
theorem take_snoc {α : Type} {l : List α} {n : Nat} {x : α} (h : l[n]? = some x) : l.take (n + 1) = l.take n ++ [x] := by
  rw [List.take_succ, h]; rfl
theorem LL.na' {L : List (Nat × Nat)} (H : LL h L) {a ci : Nat} {fs : List Value} (ha : h a = some (.inr (ci, fs)) ∧ ci ≠ 27) : a ∉ L.map Prod.fst := by
  intro hp
  obtain ⟨x, n, pv, e⟩ := H.mem hp
  rw [ha.1] at e
  simp only [Option.some.injEq, Sum.inr.injEq, Prod.mk.injEq] at e
  exact ha.2 e.1
set_option maxRecDepth 100000 in
set_option maxHeartbeats 4000000 in
theorem ll_addAll2 {a b : Nat} {mc : Int} {L : List (Nat × Nat)} (hG : GKx g) (Ha : LLh g h a 0 []) (H : LLh g h b mc L) (hab : a ≠ b) (hn : L.length < 100000) (hel : ∀ e ∈ L.map Prod.snd, isO h e) : Kc g mJ3_addAll_2 2 (L.length + 1) (4 * L.length) [.ref a, vz 0, .ref b] h (rR (fun r h' => ∃ (v m : Int) (L1 : List (Nat × Nat)), r = some (vz v) ∧ (v = 0 ∨ v = 1) ∧ L1.map Prod.snd = L.map Prod.snd ∧ (∀ p ∈ L1.map Prod.fst, h p = none) ∧ inR m ∧ LLh g h' a m L1 ∧ Fr g h h' [a])) := by
  refine Kc.of (ls := [some (.ref a), some (vz 0), some (.ref b), none, none, none, none, none, none, none, none, none, none]) (by decide +kernel) (Nat.le_of_ble_eq_true rfl) rfl ?_
  have ha : h a = some (.inr (17, [vz 0, vz ((0 : Nat) : Int), .null, .null])) := Ha.1
  have hB := Ha.2.1
  obtain ⟨f, ef⟩ : ∃ f, f = va_rf (L.head?.map Prod.fst) := ⟨_, rfl⟩
  obtain ⟨l, el⟩ : ∃ l, l = va_rf (L.getLast?.map Prod.fst) := ⟨_, rfl⟩
  have hb : h b = some (.inr (17, [vz mc, vz (L.length : Nat), f, l])) := by rw [ef, el]; exact H.1
  refine ev_aload_n dJ3_addAll_2_0 rfl ?_
  refine ev_iload_n dJ3_addAll_2_1 rfl ?_
  refine ev_callVN dJ3_addAll_2_2 cv_J3_76_J3 ce_J3_checkPositionIndex ha rfl rfl rfl (ll_checkPos (n := 0) ha (by omega)) (by omega) (Nat.le_of_ble_eq_true rfl) ?_
  refine ev_aload_n dJ3_addAll_2_5 rfl ?_
  refine ev_callVR dJ3_addAll_2_6 (cf_J3_80_J3 hG) ce_J3_toArray hb rfl rfl rfl (ll_toArray hG H (by omega) hel) (by omega) (by omega) (by omega) (Nat.le_of_ble_eq_true rfl) (fun v1 hp_1 P1 => ?_)
  obtain ⟨q, fa, rfl, hq0, hqB, hq, hfa, frq⟩ := P1
  have ha_2 := frq.keep ha (fun q => by cases q)
  have hb_3 := frq.keep hb (fun q => by cases q)
  have F4 := ((Fr.refl (g := g) _ [a])).call frq nil_in
  refine ev_astore_n dJ3_addAll_2_11 (by decide) rfl ?_
  dsimp only [List.set]
  refine ev_aload_n dJ3_addAll_2_12 rfl ?_
  refine ev_alenZ dJ3_addAll_2_13 hq rfl ?_
  refine ev_istore dJ3_addAll_2_14 (by decide) rfl ?_
  dsimp only [List.set]
  refine ev_iload dJ3_addAll_2_16 rfl ?_
  refine ev_if_neZ (tgt := 23) dJ3_addAll_2_18 (by decide) (by omega) (fun c18 => ?_) (fun c18 => ?_)
  · refine ev_iload_n dJ3_addAll_2_23 rfl ?_
    refine ev_aload_n dJ3_addAll_2_24 rfl ?_
    refine ev_getf dJ3_addAll_2_25 gf_J3_7_J3 ha_2 rfl ?_
    refine ev_icmp_neZ (tgt := 43) dJ3_addAll_2_28 (by decide) (by omega) (by omega) (fun c28 => absurd rfl (by assumption)) (fun c28 => ?_)
    refine ev_null dJ3_addAll_2_31 ?_
    refine ev_astoreN dJ3_addAll_2_32 (by decide) rfl ?_
    dsimp only [List.set]
    refine ev_aload_n dJ3_addAll_2_34 rfl ?_
    refine ev_getf dJ3_addAll_2_35 gf_J3_27_J3 ha_2 rfl ?_
    refine ev_astoreN dJ3_addAll_2_38 (by decide) rfl ?_
    dsimp only [List.set]
    refine ev_goto (tgt := 57) dJ3_addAll_2_40 (by decide) ?_
    refine ev_aload_n dJ3_addAll_2_57 rfl ?_
    refine ev_astore dJ3_addAll_2_58 (by decide) rfl ?_
    dsimp only [List.set]
    refine ev_aload dJ3_addAll_2_60 rfl ?_
    refine ev_alenZ dJ3_addAll_2_62 hq rfl ?_
    refine ev_istore dJ3_addAll_2_63 (by decide) rfl ?_
    dsimp only [List.set]
    refine ev_iconstZ dJ3_addAll_2_65 ?_
    refine ev_istore dJ3_addAll_2_66 (by decide) rfl ?_
    dsimp only [List.set]
    refine ev_whileB (fun L1 : List (Nat × Nat) => L.length - L1.length) (fun L1 => L.length - L1.length) (fun L1 => 3 * (L.length - L1.length)) (fun L1 h1 => cpI g h h1 a L L1 ∧ ∃ fa : Nat → Option Nat, h1 q = some (.inl (9, (L.length, .inr (.inr (.inr (.inr (fa))))))) ∧ (∀ j : Nat, j < L.length → fa j = (L[j]?).map Prod.snd)) (fun L1 => [some (.ref a), some (vz 0), some (.ref b), some (.ref q), some (vz (L.length : Nat)), some (va_rf (L1.getLast?.map Prod.fst)), some .null, some (.ref q), some (vz (L.length : Nat)), some (vz (L1.length : Nat)), none, none, none]) [] ⟨⟨by simp, by simp, (F4), ha_2, fun i p x hi => by simp at hi, by simp, fun p hp => by simp at hp⟩, fa, hq, hfa⟩ (by simp only [List.length_nil]; omega) (by simp only [List.length_nil]; omega) ⟨rfl, rfl, rfl, rfl, rfl, rfl, rfl, rfl, rfl, rfl, trivial⟩ (fun L1 h1 ⟨⟨hle, hsnd, F0, ha1, hLL, hND, hfr⟩, fa, hq, hfa⟩ hK => ?_)
    by_cases hi : L1.length < L.length
    · obtain ⟨⟨y0, e⟩, hye⟩ : ∃ y, L[L1.length]? = some y := ⟨_, List.getElem?_eq_getElem hi⟩
      have hC : L.length - L1.length = L.length - (L1.length + 1) + 1 := by omega
      have hK3 : 3 * (L.length - L1.length) = 3 * (L.length - (L1.length + 1)) + 3 := by omega
      rcases snocC L1 with rfl | ⟨t, ⟨pp, y⟩, rfl⟩
      · replace ha1 : h1 a = some (.inr (17, [vz 0, vz ((0 : Nat) : Int), .null, .null])) := ha1
        refine ev_iload dJ3_addAll_2_68 rfl ?_
        refine ev_iload dJ3_addAll_2_70 rfl ?_
        refine ev_icmp_geZ (tgt := 131) dJ3_addAll_2_72 (by decide) (by omega) (by omega) (fun c72 => by omega) (fun c72 => ?_)
        refine ev_aload dJ3_addAll_2_75 rfl ?_
        refine ev_iload dJ3_addAll_2_77 rfl ?_
        refine ev_aaldY (v := .ref e) dJ3_addAll_2_79 hq rfl rfl (by omega) (by rw [Int.toNat_natCast, hfa _ hi, hye]; rfl) ?_
        refine ev_astore dJ3_addAll_2_80 (by decide) rfl ?_
        dsimp only [List.set]
        refine ev_aload dJ3_addAll_2_82 rfl ?_
        refine ev_astore dJ3_addAll_2_84 (by decide) rfl ?_
        dsimp only [List.set]
        refine ev_newC (c' := L.length - (([] : List (Nat × Nat)).length + 1)) (k' := 3 * (L.length - (([] : List (Nat × Nat)).length + 1))) [.null, .null, .null] dJ3_addAll_2_86 cf_J20 q917 q918 q144 rfl (by omega) (by omega) (fun q1 hp_2 e3 B4 Hq1_5 f6 => ?_)
        have ha1_7 := (f6 _ (ne_no ha1 e3)).trans ha1
        have hq_8 := (f6 _ (ne_no hq e3)).trans hq
        have z9 := ((Fr.refl (g := g) _ [a])).fresh e3
        have F10 := ((Fr.refl (g := g) _ [a])).alloc (Or.inl ⟨_, Hq1_5⟩) f6 e3
        refine ev_dup dJ3_addAll_2_89 rfl ?_
        refine ev_aloadN dJ3_addAll_2_90 rfl ?_
        refine ev_aload dJ3_addAll_2_92 rfl ?_
        refine ev_null dJ3_addAll_2_94 ?_
        refine ev_callVR dJ3_addAll_2_95 ci_J3_24 ce_J20_init Hq1_5 rfl rfl rfl (ln_init_nn Hq1_5 B4) (by omega) (by omega) (by omega) (Nat.le_of_ble_eq_true rfl) (fun v11 hp_11 P11 => ?_)
        obtain ⟨rfl, Hn, frn⟩ := P11
        have ha1_12 := frn.keep ha1_7 (by simp only [List.mem_cons, List.not_mem_nil, or_false, not_or]; exact (ne_no ha1 e3))
        have hq_13 := frn.keep hq_8 (by simp only [List.mem_cons, List.not_mem_nil, or_false, not_or]; exact (ne_no hq e3))
        have F14 := (F10).call frn (by intro x hx; rw [List.mem_singleton.mp hx]; exact Or.inr (Or.inl z9))
        refine ev_astore dJ3_addAll_2_98 (by decide) rfl ?_
        dsimp only [List.set]
        refine ev_aloadN dJ3_addAll_2_100 rfl ?_
        refine ev_ifnonnullN dJ3_addAll_2_102 ?_
        refine ev_aload_n dJ3_addAll_2_105 rfl ?_
        refine ev_aload dJ3_addAll_2_106 rfl ?_
        refine ev_putC [vz 0, vz ((0 : Nat) : Int), .ref q1, .null] dJ3_addAll_2_108 gf_J3_18_J3 ha1_12 hB (Or.inl rfl) rfl rfl (Nat.le_of_ble_eq_true rfl) rfl (fun hp_15 ha1_16 f17 => ?_)
        have hq_18 := (f17 _ (ne_of hq_13 ha1_12 (by simp))).trans hq_13
        have Hn_19 := (f17 _ ((ne_no ha1 e3)).symm).trans Hn
        have F20 := (F14).write (Or.inl ⟨_, ha1_16⟩) f17 hB (by simp)
        refine ev_goto (tgt := 121) dJ3_addAll_2_111 (by decide) ?_
        refine ev_aload dJ3_addAll_2_121 rfl ?_
        refine ev_astore dJ3_addAll_2_123 (by decide) rfl ?_
        dsimp only [List.set]
        refine ev_iincZ dJ3_addAll_2_125 rfl (by decide) rfl ?_
        dsimp only [List.set]
        refine ev_goto (tgt := 68) dJ3_addAll_2_128 (by decide) ?_
        refine hK ([] ++ [(q1, e)]) _ _ _ _ (by rw [snoc_len ([]) (q1, e)]; omega) (by rw [snoc_len ([]) (q1, e)]; omega) (by rw [snoc_len ([]) (q1, e)]; omega) ⟨rfl, rfl, rfl, rfl, rfl, by rw [List.getLast?_concat]; rfl, rfl, rfl, rfl, vz_eq (by rw [snoc_len ([]) (q1, e)]; omega), trivial⟩ ⟨⟨by rw [snoc_len ([]) (q1, e)]; omega, ?_, F0.call F20 ?_, ?_, ?_, nodup_snoc hLL hND z9, ?_⟩, fa, (hq_18), hfa⟩
        · rw [List.map_append, snoc_len, take_snoc (x := e) (by rw [List.getElem?_map, hye]; rfl), hsnd]; rfl
        · intro z hz; exact Or.inl hz
        · exact ha1_16
        · intro i p x hi
          cases i with
          | zero => cases hi; exact Hn_19
          | succ i => simp at hi
        · intro p hp
          rw [List.map_append] at hp
          rcases List.mem_append.mp hp with z | z
          · exact hfr p z
          · rw [List.mem_singleton.mp z]; exact ⟨B4, F0.fresh z9⟩
      · obtain ⟨fv, efv⟩ : ∃ fv, fv = va_rf ((t ++ [(pp, y)]).head?.map Prod.fst) := ⟨_, rfl⟩
        obtain ⟨pv, epv⟩ : ∃ pv, pv = va_rf (pvO t t.length) := ⟨_, rfl⟩
        have hao : ∃ fs, h1 a = some (.inr (17, fs)) := ⟨_, ha1⟩
        obtain ⟨fsa, hao⟩ := hao
        replace hao : h1 a = some (.inr (17, fsa)) ∧ 17 ≠ 27 := ⟨hao, by decide⟩
        rw [← efv] at ha1
        have hp : h1 pp = some (.inr (27, [.ref y, .null, pv])) := by have r := hLL t.length pp y (snoc_at _ _); rw [snoc_end, pvO_snoc (Nat.le_refl _)] at r; rw [epv]; exact r
        have hpB : gB g ≤ pp := (hfr pp (by simp)).1
        refine Ev.forget (ls' := [some (.ref a), some (vz 0), some (.ref b), some (.ref q), some (vz (L.length : Nat)), some (.ref pp), some (.null), some (.ref q), some (vz (L.length : Nat)), some (vz ((t ++ [(pp, y)]).length : Nat)), none, none, none]) ?_ ⟨rfl, rfl, rfl, rfl, rfl, by rw [List.getLast?_concat]; rfl, rfl, rfl, rfl, rfl, trivial⟩
        refine ev_iload dJ3_addAll_2_68 rfl ?_
        refine ev_iload dJ3_addAll_2_70 rfl ?_
        refine ev_icmp_geZ (tgt := 131) dJ3_addAll_2_72 (by decide) (by omega) (by omega) (fun c72 => by omega) (fun c72 => ?_)
        refine ev_aload dJ3_addAll_2_75 rfl ?_
        refine ev_iload dJ3_addAll_2_77 rfl ?_
        refine ev_aaldY (v := .ref e) dJ3_addAll_2_79 hq rfl rfl (by omega) (by rw [Int.toNat_natCast, hfa _ hi, hye]; rfl) ?_
        refine ev_astore dJ3_addAll_2_80 (by decide) rfl ?_
        dsimp only [List.set]
        refine ev_aload dJ3_addAll_2_82 rfl ?_
        refine ev_astore dJ3_addAll_2_84 (by decide) rfl ?_
        dsimp only [List.set]
        refine ev_newC (c' := L.length - ((t ++ [(pp, y)]).length + 1)) (k' := 3 * (L.length - ((t ++ [(pp, y)]).length + 1))) [.null, .null, .null] dJ3_addAll_2_86 cf_J20 q917 q918 q144 rfl (by omega) (by omega) (fun q1 hp_2 e3 B4 Hq1_5 f6 => ?_)
        have ha1_7 := (f6 _ (ne_no ha1 e3)).trans ha1
        have hp_8 := (f6 _ (ne_no hp e3)).trans hp
        have hq_9 := (f6 _ (ne_no hq e3)).trans hq
        have z10 := ((Fr.refl (g := g) _ [a, pp])).fresh e3
        have F11 := ((Fr.refl (g := g) _ [a, pp])).alloc (Or.inl ⟨_, Hq1_5⟩) f6 e3
        refine ev_dup dJ3_addAll_2_89 rfl ?_
        refine ev_aload dJ3_addAll_2_90 rfl ?_
        refine ev_aload dJ3_addAll_2_92 rfl ?_
        refine ev_null dJ3_addAll_2_94 ?_
        refine ev_callVR dJ3_addAll_2_95 ci_J3_24 ce_J20_init Hq1_5 rfl rfl rfl (ln_init_rn Hq1_5 B4) (by omega) (by omega) (by omega) (Nat.le_of_ble_eq_true rfl) (fun v12 hp_12 P12 => ?_)
        obtain ⟨rfl, Hn, frn⟩ := P12
        have ha1_13 := frn.keep ha1_7 (by simp only [List.mem_cons, List.not_mem_nil, or_false, not_or]; exact (ne_no ha1 e3))
        have hp_14 := frn.keep hp_8 (by simp only [List.mem_cons, List.not_mem_nil, or_false, not_or]; exact (ne_no hp e3))
        have hq_15 := frn.keep hq_9 (by simp only [List.mem_cons, List.not_mem_nil, or_false, not_or]; exact (ne_no hq e3))
        have F16 := (F11).call frn (by intro x hx; rw [List.mem_singleton.mp hx]; exact Or.inr (Or.inl z10))
        refine ev_astore dJ3_addAll_2_98 (by decide) rfl ?_
        dsimp only [List.set]
        refine ev_aload dJ3_addAll_2_100 rfl ?_
        refine ev_ifnonnull (tgt := 114) dJ3_addAll_2_102 (by decide) ?_
        refine ev_aload dJ3_addAll_2_114 rfl ?_
        refine ev_aload dJ3_addAll_2_116 rfl ?_
        refine ev_putC [.ref y, .ref q1, pv] dJ3_addAll_2_118 gf_J3_36_J20 hp_14 hpB (Or.inl rfl) rfl rfl (Nat.le_of_ble_eq_true rfl) rfl (fun hp_17 hp_18 f19 => ?_)
        have ha1_20 := (f19 _ (ne_of ha1_13 hp_14 (by simp))).trans ha1_13
        have hq_21 := (f19 _ (ne_of hq_15 hp_14 (by simp))).trans hq_15
        have Hn_22 := (f19 _ ((ne_no hp e3)).symm).trans Hn
        have F23 := (F16).write (Or.inl ⟨_, hp_18⟩) f19 hpB (by simp)
        refine ev_aload dJ3_addAll_2_121 rfl ?_
        refine ev_astore dJ3_addAll_2_123 (by decide) rfl ?_
        dsimp only [List.set]
        refine ev_iincZ dJ3_addAll_2_125 rfl (by decide) rfl ?_
        dsimp only [List.set]
        refine ev_goto (tgt := 68) dJ3_addAll_2_128 (by decide) ?_
        refine hK ((t ++ [(pp, y)]) ++ [(q1, e)]) _ _ _ _ (by rw [snoc_len ((t ++ [(pp, y)])) (q1, e)]; omega) (by rw [snoc_len ((t ++ [(pp, y)])) (q1, e)]; omega) (by rw [snoc_len ((t ++ [(pp, y)])) (q1, e)]; omega) ⟨rfl, rfl, rfl, rfl, rfl, by rw [List.getLast?_concat]; rfl, rfl, rfl, rfl, vz_eq (by rw [snoc_len ((t ++ [(pp, y)])) (q1, e)]; omega), trivial⟩ ⟨⟨by rw [snoc_len ((t ++ [(pp, y)])) (q1, e)]; omega, ?_, F0.call F23 ?_, ?_, ?_, nodup_snoc hLL hND z10, ?_⟩, fa, (hq_21), hfa⟩
        · rw [List.map_append, snoc_len, take_snoc (x := e) (by rw [List.getElem?_map, hye]; rfl), hsnd]; rfl
        · intro z hz
          rcases List.mem_cons.mp hz with r | r
          · exact Or.inl (by rw [r]; exact List.mem_cons_self)
          · rw [List.mem_singleton.mp r]; exact Or.inr (Or.inl (hfr pp (by simp)).2)
        · have r := ha1_20; rw [r, snoc_hd, efv]
        · intro i r y' hi
          by_cases c1 : i < t.length
          · rw [snoc_lt (by simp; omega), snoc_lt c1] at hi
            have r1 := hLL i r y' (by rw [snoc_lt c1]; exact hi)
            rw [snoc_lt (by simp; omega), pvO_snoc (by simp; omega)]
            refine (F23).keep r1 ?_
            have hm : r ∈ t.map Prod.fst := LL.at (i := i) hi
            simp only [List.mem_cons, List.not_mem_nil, or_false, not_or]
            exact ⟨fun c => hLL.na' hao (c ▸ (by rw [List.map_append]; exact List.mem_append_left _ hm)), fun c => snoc_nd hND (c ▸ hm)⟩
          · by_cases c2 : i = t.length
            · subst c2
              rw [snoc_lt (by simp), snoc_at] at hi
              cases hi
              have r := hp_18
              rw [r, pvO_snoc (by simp), pvO_snoc (Nat.le_refl _), show t.length + 1 = (t ++ [(pp, y)]).length by simp, snoc_at, epv]; rfl
            · have c3 : i = (t ++ [(pp, y)]).length := by have := (List.getElem?_eq_some_iff.mp hi).1; simp at this ⊢; omega
              subst c3
              rw [snoc_at] at hi
              cases hi
              have r := Hn_22
              rw [r, snoc_end, snoc_len t, show pvO ((t ++ [(pp, y)]) ++ [(q1, e)]) (t.length + 1) = some pp by show (((t ++ [(pp, y)]) ++ [(q1, e)])[t.length]?).map _ = _; rw [snoc_lt (by simp), snoc_at]; rfl]; rfl
        · intro p hp
          rw [List.map_append] at hp
          rcases List.mem_append.mp hp with z | z
          · exact hfr p z
          · rw [List.mem_singleton.mp z]; exact ⟨B4, F0.fresh z10⟩
    · have hLe : L1.length = L.length := by omega
      rw [hLe]
      refine ev_iload dJ3_addAll_2_68 rfl ?_
      refine ev_iload dJ3_addAll_2_70 rfl ?_
      refine ev_icmp_geZ (tgt := 131) dJ3_addAll_2_72 (by decide) (by omega) (by omega) (fun c72 => ?_) (fun c72 => by omega)
      refine ev_aloadN dJ3_addAll_2_131 rfl ?_
      refine ev_ifnonnullN dJ3_addAll_2_133 ?_
      refine ev_aload_n dJ3_addAll_2_136 rfl ?_
      refine ev_aloadR dJ3_addAll_2_137 rfl ?_
      refine ev_putC [vz 0, vz ((0 : Nat) : Int), va_rf (L1.head?.map Prod.fst), va_rf (L1.getLast?.map Prod.fst)] dJ3_addAll_2_139 gf_J3_27_J3 ha1 hB (Or.inl rfl) (by cases L1.getLast?.map Prod.fst <;> rfl) (by cases L1.getLast?.map Prod.fst <;> rfl) (Nat.le_of_ble_eq_true rfl) rfl (fun hp_1 ha1_2 f3 => ?_)
      have F4 := ((Fr.refl (g := g) _ [a])).write (Or.inl ⟨_, ha1_2⟩) f3 hB (by simp)
      refine ev_goto (tgt := 159) dJ3_addAll_2_142 (by decide) ?_
      refine ev_aload_n dJ3_addAll_2_159 rfl ?_
      refine ev_dup dJ3_addAll_2_160 rfl ?_
      refine ev_getf dJ3_addAll_2_161 gf_J3_7_J3 ha1_2 rfl ?_
      refine ev_iload dJ3_addAll_2_164 rfl ?_
      refine ev_iaddZ dJ3_addAll_2_166 ?_
      refine ev_putC [vz 0, vz (((0 : Nat) : Int) + (L.length : Nat)), va_rf (L1.head?.map Prod.fst), va_rf (L1.getLast?.map Prod.fst)] dJ3_addAll_2_167 gf_J3_7_J3 ha1_2 hB (Or.inl rfl) rfl rfl (Nat.le_of_ble_eq_true rfl) rfl (fun hp_5 ha1_6 f7 => ?_)
      have F8 := (F4).write (Or.inl ⟨_, ha1_6⟩) f7 hB (by simp)
      refine ev_aload_n dJ3_addAll_2_170 rfl ?_
      refine ev_dup dJ3_addAll_2_171 rfl ?_
      refine ev_getf dJ3_addAll_2_172 gf_J3_33_J3 ha1_6 rfl ?_
      refine ev_iconstZ dJ3_addAll_2_175 ?_
      refine ev_iaddZ dJ3_addAll_2_176 ?_
      refine ev_putC [vz (0 + 1), vz (((0 : Nat) : Int) + (L.length : Nat)), va_rf (L1.head?.map Prod.fst), va_rf (L1.getLast?.map Prod.fst)] dJ3_addAll_2_177 gf_J3_33_J3 ha1_6 hB (Or.inl rfl) rfl rfl (Nat.le_of_ble_eq_true rfl) rfl (fun hp_9 ha1_10 f11 => ?_)
      have F12 := (F8).write (Or.inl ⟨_, ha1_10⟩) f11 hB (by simp)
      refine ev_iconstZ dJ3_addAll_2_180 ?_
      refine ev_zreturn dJ3_addAll_2_181 rfl rfl ?_
      have hfin := ha1_10
      have e1 : vz (((0 : Nat) : Int) + ((L.length : Nat) : Int)) = vz ((L1.length : Nat) : Int) := by congr 1; omega
      rw [e1] at hfin
      have e2 : L1.map Prod.snd = L.map Prod.snd := by rw [hsnd, show L1.length = (L.map Prod.snd).length by rw [List.length_map]; omega, List.take_length]
      exact ⟨_, rfl, 1, 1, L1, rfl, Or.inr rfl, e2, fun p hp => (hfr p hp).2, by decide, ⟨hfin, hB, fun i p x hi => (F12).keep (hLL i p x hi) (fun c => hLL.na' ⟨ha1, by decide⟩ (by rw [← List.mem_singleton.mp c]; exact LL.at hi)), hND, fun p hp => (hfr p hp).1⟩, F0.call F12 (fun z hz => Or.inl hz)⟩
  · have hL0 : L = [] := List.eq_nil_of_length_eq_zero (by omega)
    refine ev_iconstZ dJ3_addAll_2_21 ?_
    refine ev_zreturn dJ3_addAll_2_22 rfl rfl ?_
    exact ⟨_, rfl, 0, 0, [], rfl, Or.inl rfl, by rw [hL0], fun p hp => by simp at hp, by decide, ⟨ha_2, hB, fun i p x hi => by simp at hi, by simp, fun p hp => by simp at hp⟩, F4⟩
set_option maxRecDepth 100000 in
set_option maxHeartbeats 4000000 in
theorem ll_addAll {a b : Nat} {mc : Int} {L : List (Nat × Nat)} (hG : GKx g) (Ha : LLh g h a 0 []) (H : LLh g h b mc L) (hab : a ≠ b) (hn : L.length < 100000) (hel : ∀ e ∈ L.map Prod.snd, isO h e) : Kc g mJ3_addAll 3 (L.length + 1) (4 * L.length) [.ref a, .ref b] h (rR (fun r h' => ∃ (v : Int) (m : Int) (L1 : List (Nat × Nat)), r = some (vz v) ∧ (v = 0 ∨ v = 1) ∧ L1.map Prod.snd = L.map Prod.snd ∧ (∀ p ∈ L1.map Prod.fst, h p = none) ∧ inR m ∧ LLh g h' a m L1 ∧ Fr g h h' [a])) := by
  refine Kc.of (ls := [some (.ref a), some (.ref b)]) (by decide +kernel) (Nat.le_of_ble_eq_true rfl) rfl ?_
  have ha : h a = some (.inr (17, [vz 0, vz ((0 : Nat) : Int), .null, .null])) := Ha.1
  refine ev_aload_n dJ3_addAll_0 rfl ?_
  refine ev_aload_n dJ3_addAll_1 rfl ?_
  refine ev_getf dJ3_addAll_2 gf_J3_7_J3 ha rfl ?_
  refine ev_aload_n dJ3_addAll_5 rfl ?_
  refine ev_callVR dJ3_addAll_6 cv_J3_73_J3 ce_J3_addAll_2 ha rfl rfl rfl (ll_addAll2 hG Ha H hab hn hel) (by omega) (by omega) (by omega) (Nat.le_of_ble_eq_true rfl) (fun v1 hp_1 P1 => ?_)
  obtain ⟨v, m, L1, rfl, e0, e1, e2, e3, e4, frx⟩ := P1
  have F2 := ((Fr.refl (g := g) _ [a])).call frx (fun x hx => Or.inl hx)
  refine ev_zreturn dJ3_addAll_9 rfl (by rcases e0 with e | e <;> rw [e] <;> rfl) ?_
  exact ⟨_, rfl, v, m, L1, rfl, e0, e1, e2, e3, e4, F2⟩
set_option maxRecDepth 100000 in
set_option maxHeartbeats 4000000 in
theorem ll_copy {a b : Nat} {mc : Int} {x y : Value} {L : List (Nat × Nat)} (hG : GKx g) (ha : h a = some (.inr (17, [x, y, .null, .null]))) (hB : gB g ≤ a) (H : LLh g h b mc L) (hab : a ≠ b) (hn : L.length < 100000) (hel : ∀ e ∈ L.map Prod.snd, isO h e) (hna : a ∉ L.map Prod.fst) : Kc g mJ3_init_2 5 (L.length + 1) (4 * L.length) [.ref a, .ref b] h (rR (fun r h' => r = none ∧ ∃ (m : Int) (L1 : List (Nat × Nat)), L1.map Prod.snd = L.map Prod.snd ∧ (∀ p ∈ L1.map Prod.fst, h p = none) ∧ inR m ∧ LLh g h' a m L1 ∧ Fr g h h' [a])) := by
  refine Kc.of (ls := [some (.ref a), some (.ref b)]) (by decide +kernel) (Nat.le_of_ble_eq_true rfl) rfl ?_
  refine ev_aload_n dJ3_init_2_0 rfl ?_
  refine ev_callVR dJ3_init_2_1 ci_J3_13 ce_J3_init ha rfl rfl rfl (ll_init ha hB) (by omega) (by omega) (by omega) (Nat.le_of_ble_eq_true rfl) (fun v1 hp_1 P1 => ?_)
  obtain ⟨rfl, Ha1, fra⟩ := P1
  have F2 := ((Fr.refl (g := g) _ [a])).call fra (fun x hx => Or.inl hx)
  have FA := F2
  refine ev_aload_n dJ3_init_2_4 rfl ?_
  refine ev_aload_n dJ3_init_2_5 rfl ?_
  refine ev_callVR dJ3_init_2_6 cv_J3_14_J3 ce_J3_addAll Ha1.1 rfl rfl rfl (ll_addAll hG Ha1 (H.fr FA (fun x hx => by rw [List.mem_singleton.mp hx]; exact ⟨hab, hna⟩)) hab hn (fun e he => FA.o (hel e he))) (by omega) (by omega) (by omega) (Nat.le_of_ble_eq_true rfl) (fun v3 hp_3 P3 => ?_)
  obtain ⟨v, m, L1, rfl, e0, e1, e2, e3, e4, frx⟩ := P3
  have F4 := (F2).call frx (fun x hx => Or.inl hx)
  refine ev_pop dJ3_init_2_9 rfl ?_
  refine ev_return dJ3_init_2_10 rfl ?_
  exact ⟨_, rfl, rfl, m, L1, e1, fun p hp => FA.fresh (e2 p hp), e3, e4, F4⟩
end J7S

/-! THE COMPONENT: the class, read (printed by gen) -/
section Y9S
variable {g : GB} {M : MI} {d c k : Nat} {h : HM}
variable {N : Nat} {B : Nat → Prop} {o : Nat} {σ : Sp}
theorem XQ.base {hp h' : HM} {C : Int → String} {r : Rs} {res : RS} {S : List Nat} (F : Fr g h hp S) (hS : ∀ x ∈ S, ¬ B x) (Q : XQ g N B hp o C r res h') : XQ g N B h o C r res h' := by
  obtain ⟨W, ⟨S9, F9, hS9⟩, q⟩ := Q
  exact ⟨W, ⟨S ++ S9, (F.more (fun x hx => Or.inl (List.mem_append_left _ hx))).call F9 (fun x hx => Or.inl (List.mem_append_right _ hx)), B_app hS hS9⟩, q⟩
/-- the labels of a new input and a new parser -/
def ow3 (own : Nat → Nat) (q v r : Nat) : Nat → Nat := fun x => if x = q ∨ x = v then 6 else if x = r then 7 else own x
theorem ow3_K {own : Nat → Nat} {q v r : Nat} (h1 : h q = none) (h2 : h v = none) (h3 : h r = none) : ownK h own (ow3 own q v r) := fun x hx => by
  unfold ow3
  rw [if_neg (fun e => by rcases e with e | e; · rw [e] at hx; exact hx h1
                          · rw [e] at hx; exact hx h2), if_neg (fun e => by rw [e] at hx; exact hx h3)]
set_option maxRecDepth 100000 in
set_option maxHeartbeats 4000000 in
theorem kx_read (hG : GKx g) (K0 : KC g h) (W : WX g N B h o σ) (hO : spOk σ)  (hd : 600 ≤ d) (hc : 3100 ≤ c) (hk : 111000 ≤ k) : Kc g mX1_read d c k [.ref o] h (XQ g (N + 1) B h o (fun m : Int => if m = 1 then "java/lang/IllegalArgumentException" else "java/lang/UnsupportedOperationException") (opRead σ)) := by
  refine Kc.of (ls := [some (.ref o), none, none, none]) (by decide +kernel) (Nat.le_of_ble_eq_true rfl) rfl ?_
  obtain ⟨I, own, ⟨pid, a, st, fo⟩, us, cl, ud, uv, uh, ib, iv, ic, os, ow, sdv, scv, lev, cs, HO, WR⟩ := id W
  have HO : h o = some (.inr (0, [.ref a, .ref cl, .ref ud, sdv, scv, .ref ib, .ref os, lev, vz σ.2.2.2.2.2.1, vz σ.2.2.2.2.1])) := HO
  obtain ⟨⟨hBo, ho1, hIo⟩, ⟨hSI, hCI, hBB⟩, KD, KCs, KU, KN, KS, KI, KOu, KE⟩ := id WR
  have H : DnC g I h a st fo σ.1 := KD.1
  have dO := hO.1
  obtain ⟨A, Bf, pv, sv, KDA, hA, hB9, hV⟩ := id H
  obtain ⟨k1, k2, k3, k4, k5, k6, k7, k8⟩ := id KDA
  obtain ⟨KB, ⟨w1, w2, w3, w4⟩, ht100, ht8, hic⟩ := id KI
  rw [← rdR_op]
  refine ev_newC (c' := 3090) (k' := 110900) [.null, vz 0, vz 0] dX1_read_0 cf_X6 q1591 q1592 q151 rfl (by omega) (by omega) (fun q1 hp_2 e3 B4 Hq1_5 f6 => ?_)
  have HO_7 := (f6 _ (ne_no HO e3)).trans HO
  have z8 := ((Fr.refl (g := g) _ [o])).fresh e3
  have F9 := ((Fr.refl (g := g) _ [o])).alloc (Or.inl ⟨_, Hq1_5⟩) f6 e3
  refine ev_dup dX1_read_3 rfl ?_
  refine ev_aload_n dX1_read_4 rfl ?_
  refine ev_getf dX1_read_5 gf_X1_58_X1 HO_7 rfl ?_
  refine ev_callVR dX1_read_8 ci_X1_174 ce_X6_init Hq1_5 rfl rfl rfl (k_initX6 (tb := ib) Hq1_5 B4) (by omega) (by omega) (by omega) (Nat.le_of_ble_eq_true rfl) (fun v10 hp_10 P10 => ?_)
  obtain ⟨rfl, HP10, F10⟩ := P10
  have HO_11 := F10.keep HO_7 (by simp only [List.mem_cons, List.not_mem_nil, or_false, not_or]; exact (ne_no HO e3))
  have F12 := (F9).call F10 (fun x hx => Or.inr (Or.inl (by rw [List.mem_singleton.mp hx]; exact z8)))
  refine ev_astore_n dX1_read_11 (by decide) rfl ?_
  dsimp only [List.set]
  refine ev_aload_n dX1_read_12 rfl ?_
  refine ev_newC (c' := 3080) (k' := 110800) [.null, vz 0, vz 0, vz 0] dX1_read_13 cf_J6 q283 q284 q126 rfl (by omega) (by omega) (fun q13 hp_14 e15 B16 Hq13_17 f18 => ?_)
  have HO_19 := (f18 _ (ne_no HO_11 e15)).trans HO_11
  have HP10_20 := (f18 _ (ne_no HP10 e15)).trans HP10
  have z21 := (F12).fresh e15
  have F22 := (F12).alloc (Or.inl ⟨_, Hq13_17⟩) f18 e15
  refine ev_dup dX1_read_16 rfl ?_
  refine ev_callVR dX1_read_17 ci_X1_57 ce_J6_init Hq13_17 rfl rfl rfl (sb_init hG Hq13_17 B16) (by omega) (by omega) (by omega) (Nat.le_of_ble_eq_true rfl) (fun v23 hp_23 P23 => ?_)
  obtain ⟨rfl, v2, hv2, KB2, F23⟩ := P23
  obtain ⟨bAn, hbn23, -⟩ := id KB2
  have hv0 : h v2 = none := (F22).fresh hv2
  have HO_24 := F23.keep HO_19 (by simp only [List.mem_cons, List.not_mem_nil, or_false, not_or]; exact (ne_no HO_11 e15))
  have HP10_25 := F23.keep HP10_20 (by simp only [List.mem_cons, List.not_mem_nil, or_false, not_or]; exact (ne_no HP10 e15))
  have F26 := (F22).call F23 (fun x hx => Or.inr (Or.inl (by rw [List.mem_singleton.mp hx]; exact z21)))
  refine ev_putC [.ref a, .ref cl, .ref ud, sdv, scv, .ref q13, .ref os, lev, vz σ.2.2.2.2.2.1, vz σ.2.2.2.2.1] dX1_read_20 gf_X1_58_X1 HO_24 hBo (Or.inl rfl) rfl rfl (Nat.le_of_ble_eq_true rfl) rfl (fun hp_27 HO_28 f29 => ?_)
  have HP10_30 := (f29 _ ((ne_no HO e3)).symm).trans HP10_25
  have hbn23_31 := (f29 _ ((ne_no HO_11 e15)).symm).trans hbn23
  have F32 := (F26).write (Or.inl ⟨_, HO_28⟩) f29 hBo (by simp)
  have Fo := (Fr.refl (g := g) hp_23 [o]).write (Or.inl ⟨_, HO_28⟩) f29 hBo (by simp)
  have KB3 := KB2.fr Fo (fun e => by rw [List.mem_singleton.mp e, HO] at z21; cases z21) (fun e => by rw [List.mem_singleton.mp e, HO] at hv0; cases hv0)
  obtain ⟨bA3, g1, g2, g3, -⟩ := id KB3
  have n12 : q1 ≠ q13 := fun e => by rw [e, g1] at HP10_30; cases HP10_30
  have n1v : q1 ≠ v2 := fun e => by rw [e, g3] at HP10_30; cases HP10_30
  have KIn : InW g I hp_27 (ow3 own q13 v2 q1) q13 v2 16 [] := ⟨KB3, ⟨if_pos (Or.inl rfl), if_pos (Or.inr rfl), (by
    cases e : I q13 with
    | none => rfl
    | some y => have := hSI _ _ e; rw [z21] at this; cases this), (by
    cases e : I v2 with
    | none => rfl
    | some y => have := hSI _ _ e; rw [hv0] at this; cases this)⟩, by show 0 ≤ 100; omega, (fun u hu => by cases hu), by omega⟩
  have WRf := WXr.inpo WR (by rw [HO]; exact fun q => by cases q) F32 (ow3_K z21 hv0 z8) KIn
  have HTf := KB.fr F32 (fun e => by rw [List.mem_singleton.mp e, ho1] at w1; cases w1) (fun e => by rw [List.mem_singleton.mp e, ho1] at w2; cases w2)
  have hps : ow3 own q13 v2 q1 q1 = 7 ∧ I q1 = none ∧ gB g ≤ q1 := ⟨by unfold ow3; rw [if_neg (fun e => e.elim n12 n1v), if_pos rfl], (by
    cases e : I q1 with
    | none => rfl
    | some y => have := hSI _ _ e; rw [z8] at this; cases this), B4⟩
  have R9 := rd23 (c := 3000) (k := 110000) hG (K0.fr F32) HO_28 WRf hps HP10_30 HTf ht8 ht100 hd (Nat.le_refl _) (Nat.le_refl _) none none
  refine (Ev.le (by omega) (by omega) R9).mono (fun r h' q => XQ.base F32 (fun x hx => by rw [List.mem_singleton.mp hx]; exact WR.nB) q)
end Y9S

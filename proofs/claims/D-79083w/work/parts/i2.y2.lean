/-! THE COMPONENT: the class, exchange (printed by gen) -/
section Y2S
variable {g : GB} {M : MI} {d c k : Nat} {h : HM}
variable {N : Nat} {B : Nat → Prop} {o : Nat} {σ : Sp}
/-- how many places change -/
def tvB (x y : Nat) (nd : Nd) : Nat := if nd.1 ≤ 1 then chB x y nd.2.2.2.1 else 0
def totB (x y : Nat) (l : List Nd) : Nat := (l.map (tvB x y)).sum
theorem totB_app (x y : Nat) (a b : List Nd) : totB x y (a ++ b) = totB x y a + totB x y b := by unfold totB; rw [List.map_append, List.sum_append]
theorem totB_leaf (x y : Nat) (l : List Nd) : totB x y (leafL l) = totB x y l := by
  induction l with
  | nil => rfl
  | cons nd l ih =>
    by_cases q : nd.1 ≤ 2
    · have e : leafL (nd :: l) = nd :: leafL l := by simp [leafL, List.filter_cons, q]
      rw [e]
      show tvB x y nd + totB x y (leafL l) = tvB x y nd + totB x y l
      rw [ih]
    · have e : leafL (nd :: l) = leafL l := by simp [leafL, List.filter_cons, q]
      rw [e, ih]
      show _ = tvB x y nd + totB x y l
      rw [show tvB x y nd = 0 from if_neg (by omega), Nat.zero_add]
theorem chB_cnt {x y : Nat} (h : x ≠ y) (ds : List Nat) : ∀ n, n ≤ ds.length → cntD x y ds n = chB x y (ds.take n) := by
  intro n
  induction n with
  | zero => intro _; rfl
  | succ n ih =>
    intro hn
    rw [chB_take (List.getElem?_eq_getElem (by omega)), ← ih (by omega)]
    show cntD x y ds n + _ = _
    rw [List.getD_eq_getElem?_getD, List.getElem?_eq_getElem (by omega)]
    show _ + (if ds[n] = x ∨ ds[n] = y then 1 else 0) = _
    congr 1
    unfold exN
    by_cases h1 : ds[n] = x
    · rw [if_pos (Or.inl h1), if_pos h1, if_neg (by omega)]
    · by_cases h2 : ds[n] = y
      · rw [if_pos (Or.inr h2), if_neg h1, if_pos h2, if_neg (by omega)]
      · rw [if_neg (by omega), if_neg h1, if_neg h2, if_pos rfl]
theorem chB_same (x : Nat) (ds : List Nat) : chB x x ds = 0 := by
  unfold chB
  rw [List.length_eq_zero_iff, List.filter_eq_nil_iff]
  intro u _
  have : exN x x u = u := by unfold exN; split <;> (try split) <;> omega
  simp [this]
theorem totB_cnt {x y : Nat} (h : x ≠ y) (l : List Nd) : ∀ n, n ≤ l.length → cntL x y l n = totB x y (l.take n) := by
  intro n
  induction n with
  | zero => intro _; rfl
  | succ n ih =>
    intro hn
    have e : l.take (n + 1) = l.take n ++ [l.getD n noNd] := by
      rw [List.take_succ, List.getElem?_eq_getElem (by omega), List.getD_eq_getElem?_getD, List.getElem?_eq_getElem (by omega)]; rfl
    rw [e, totB_app, ← ih (by omega)]
    show cntL x y l n + _ = cntL x y l n + (tvB x y (l.getD n noNd) + 0)
    generalize l.getD n noNd = u
    unfold tvB
    by_cases q : u.1 ≤ 1
    · rw [if_pos q, if_pos q, chB_cnt h _ _ (Nat.le_refl _), List.take_length]; rfl
    · rw [if_neg q, if_neg q]
theorem totB_same (x : Nat) (l : List Nd) : totB x x l = 0 := by
  unfold totB
  induction l with
  | nil => rfl
  | cons nd l ih => rw [List.map_cons, List.sum_cons, ih, show tvB x x nd = 0 by unfold tvB; rw [chB_same]; split <;> rfl]
/-- the reference's test and the component's -/
theorem totB_all {x y : Nat} (l : List Nd) : (x = y ∨ cntL x y l l.length = 0 ↔ totB x y l = 0) ∧ (x ≠ y → cntL x y l l.length = totB x y l) := by
  have h1 : x ≠ y → cntL x y l l.length = totB x y l := fun h => by rw [totB_cnt h l _ (Nat.le_refl _), List.take_length]
  refine ⟨⟨fun q => ?_, fun q => ?_⟩, h1⟩
  · by_cases e : x = y
    · rw [e]; exact totB_same y l
    · rw [← h1 e]; exact q.resolve_left e
  · by_cases e : x = y
    · exact Or.inl e
    · exact Or.inr (by rw [h1 e]; exact q)
theorem ndOk2_ds {nd : Nd} (h : ndOk2 nd) (h1 : nd.1 ≤ 1) : ∀ u ∈ nd.2.2.2.1, u < 8 := fun u hu => by
  obtain ⟨i, hi⟩ := List.getElem?_of_mem hu
  have h2 := (h.1.2.2.2 h1).2.2.1 i (lt_of_getE hi)
  rw [List.getD_eq_getElem?_getD, hi] at h2
  exact h2
theorem chB_le' (x y : Nat) (ds : List Nat) : chB x y ds ≤ ds.length := chB_le x y ds
theorem totB_le (x y : Nat) (l : List Nd) : totB x y l ≤ rK l := by
  unfold totB rK
  induction l with
  | nil => exact Nat.le_refl _
  | cons nd l ih =>
    rw [List.map_cons, List.map_cons, List.sum_cons, List.sum_cons]
    have h1 : tvB x y nd ≤ rnK nd := by
      unfold tvB rnK
      have := chB_le x y nd.2.2.2.1
      split <;> omega
    omega
theorem rC_le : ∀ (n : Nat) (l : List Nd), TR n l → rC l + 1 ≤ 3 * l.length := by
  intro n
  induction n with
  | zero => intro l h; exact h.elim
  | succ n ih =>
    rintro l ⟨nd, cs, rfl, hc, -, hcs⟩
    have key : ∀ cs : List (List Nd), (∀ c ∈ cs, TR n c) → rC cs.flatten + cs.length ≤ 3 * cs.flatten.length := by
      intro cs
      induction cs with
      | nil => intro _; exact Nat.le_refl _
      | cons c cs ihc =>
        intro h
        have h1 := ih c (h c List.mem_cons_self)
        have h2 := ihc (fun c' q => h c' (List.mem_cons_of_mem _ q))
        have e : rC (c ++ cs.flatten) = rC c + rC cs.flatten := by unfold rC; rw [List.map_append, List.sum_append]
        rw [List.flatten_cons, e, List.length_append, List.length_cons]
        omega
    have h1 := key cs hcs
    show (2 + nd.2.2.1) + rC cs.flatten + 1 ≤ 3 * (nd :: cs.flatten).length
    rw [List.length_cons, hc]
    omega
set_option maxRecDepth 100000 in
set_option maxHeartbeats 4000000 in
theorem kx_exchange (hG : GKx g) (K0 : KC g h) (W : WX g N B h o σ) (hO : spOk σ) {x y : Int} (hr1 : inR x) (hr2 : inR y) (hL : dnLn σ.1) (hX : ∀ l, σ.1.2.2.2 = some l → rK l ≤ 150000) (hd : 700 ≤ d) (hc : 6000 ≤ c) (hk : 160000 ≤ k) : Kc g mX1_exchange d c k [.ref o, vz x, vz y] h (XQ g (N + 1) B h o (fun m : Int => if m = 1 then "java/lang/IndexOutOfBoundsException" else "java/lang/IllegalStateException") (opExch σ x y)) := by
  refine Kc.of (ls := [some (.ref o), some (vz x), some (vz y), none, none, none, none, none]) (by decide +kernel) (Nat.le_of_ble_eq_true rfl) rfl ?_
  obtain ⟨I, own, ⟨pid, a, st, fo⟩, us, cl, ud, uv, uh, ib, iv, ic, os, ow, sdv, scv, lev, cs, HO, WR⟩ := id W
  have HO : h o = some (.inr (0, [.ref a, .ref cl, .ref ud, sdv, scv, .ref ib, .ref os, lev, vz σ.2.2.2.2.2.1, vz σ.2.2.2.2.1])) := HO
  obtain ⟨⟨hBo, ho1, hIo⟩, ⟨hSI, hCI, hBB⟩, KD, KCs, KU, KN, KS, KI, KOu, KE⟩ := id WR
  have H : DnC g I h a st fo σ.1 := KD.1
  have dO := hO.1
  obtain ⟨A, Bf, pv, sv, KDA, hA, hB9, hV⟩ := id H
  obtain ⟨k1, k2, k3, k4, k5, k6, k7, k8⟩ := id KDA
  unfold opExch
  by_cases c9 : 0 ≤ x ∧ x ≤ 7
  · by_cases c8 : 0 ≤ y ∧ y ≤ 7
    · rw [if_pos ⟨c9, c8⟩]
      cases hp9 : σ.1.2.2.2 with
      | none =>
        rw [withP_none hp9]
        refine ev_iload_n dX1_exchange_0 rfl ?_
        refine ev_callSN dX1_exchange_1 cs_X1_140 ce_X1_checkDancer rfl rfl (k_checkDancerT (d := 0) hr1 c9) (by omega) (Nat.le_of_ble_eq_true rfl) ?_
        refine ev_iload_n dX1_exchange_4 rfl ?_
        refine ev_callSN dX1_exchange_5 cs_X1_140 ce_X1_checkDancer rfl rfl (k_checkDancerT (d := 0) hr2 c8) (by omega) (Nat.le_of_ble_eq_true rfl) ?_
        refine ev_aload_n dX1_exchange_8 rfl ?_
        refine ev_callV dX1_exchange_9 cv_X1_209_X1 ce_X1_checkPiece HO rfl rfl rfl (k_checkPieceF H HO hBo hG hp9) (by omega) (by omega) (by omega) (Nat.le_of_ble_eq_true rfl) (fun v h2 q => ?_) (fun E q h2 r => ?_)
        · obtain ⟨q9, e9, -⟩ := q; cases e9
        · obtain ⟨q9, e9, e8, e7⟩ := r
          cases e9
          have W9 : WX g N B h2 o (wReason σ 3) := ⟨I, own, (pid, a, st, fo), us, cl, ud, uv, uh, ib, iv, ic, os, ow, sdv, scv, lev, cs, e8, WR.self e7⟩
          exact evx_out rfl (XQ.no (by decide) rfl (W9.le (Nat.le_succ N)) e7 (fun x hx => by rw [List.mem_singleton.mp hx]; exact WR.nB))
      | some l =>
        rw [withP_some hp9]
        rw [hp9] at hV
        obtain ⟨pp, sc, ss, cu, ru, rfl, rfl, hN, SA, SB, ⟨s1, s2, s3, s4, s5, s6, s7⟩, hSA, hSB⟩ := hV
        have pf := pf_dn dO hp9
        replace s1 := hSI _ _ s1
        replace s2 := hSI _ _ s2
        have hcn := (hN.sub hSI).cls
        obtain ⟨x9, rfl⟩ := toB x c9.1
        obtain ⟨y9, rfl⟩ := toB y c8.1
        have hx8 : x9 < 8 := by omega
        have hy8 : y9 < 8 := by omega
        have hl9 := hL l hp9
        have hX9 := hX l hp9
        have hl8 := hl9
        replace hl9 : l.length < 1000000 := by omega
        have WR0 := WR
        have HO0 := HO
        have hpt := pot_lt 81 l pf.2.1.1
        have hrC := rC_le 81 l pf.2.1.1
        have htB := totB_le x9 y9 l
        obtain ⟨hall, hcnt⟩ := totB_all (x := x9) (y := y9) l
        have pq := pc_ex hx8 hy8 pf.2.1 (dO.2.2.2.2.2.2 l hp9).2
        rw [Int.toNat_natCast, Int.toNat_natCast]
        refine ev_iload_n dX1_exchange_0 rfl ?_
        refine ev_callSN dX1_exchange_1 cs_X1_140 ce_X1_checkDancer rfl rfl (k_checkDancerT (d := 0) hr1 c9) (by omega) (Nat.le_of_ble_eq_true rfl) ?_
        refine ev_iload_n dX1_exchange_4 rfl ?_
        refine ev_callSN dX1_exchange_5 cs_X1_140 ce_X1_checkDancer rfl rfl (k_checkDancerT (d := 0) hr2 c8) (by omega) (Nat.le_of_ble_eq_true rfl) ?_
        refine ev_aload_n dX1_exchange_8 rfl ?_
        refine ev_callVN dX1_exchange_9 cv_X1_209_X1 ce_X1_checkPiece HO rfl rfl rfl (k_checkPieceT (d := 0) H HO hBo hp9) (by omega) (Nat.le_of_ble_eq_true rfl) ?_
        refine ev_bipushZ dX1_exchange_12 rfl ?_
        refine ev_newA_int (N := 8) (c' := 5990) (k' := 159980) dX1_exchange_14 (by omega) (by omega) (by omega) (by omega) (by omega) (fun q1 hp_2 e3 B4 Hq1_5 f6 => ?_)
        have HO_7 := (f6 _ (ne_no HO e3)).trans HO
        have k1_8 := (f6 _ (ne_no k1 e3)).trans k1
        have s1_9 := (f6 _ (ne_no s1 e3)).trans s1
        have z10 := ((Fr.refl (g := g) _ [])).fresh e3
        have F11 := ((Fr.refl (g := g) _ [])).alloc (Or.inr ⟨_, Hq1_5, Nat.le_of_ble_eq_true rfl⟩) f6 e3
        refine ev_astore_n dX1_exchange_16 (by decide) rfl ?_
        dsimp only [List.set]
        refine ev_iconstZ dX1_exchange_17 ?_
        refine ev_istore dX1_exchange_18 (by decide) rfl ?_
        dsimp only [List.set]
        refine ev_for (st := []) 8 (fun i hb => (∃ A : Nat → Int, hb q1 = some (.inl (0, (8, .inl (fun j => zI (A j))))) ∧ ∀ j : Nat, j < i → A j = ((exN x9 y9 j : Nat) : Int)) ∧ Fr g h hb []) (fun i => [some (.ref o), some (vz ((x9 : Nat) : Int)), some (vz ((y9 : Nat) : Int)), some (.ref q1), some (vz ((i : Nat) : Int)), none, none, none]) 0 (Nat.zero_le _) ⟨⟨_, Hq1_5, fun j hj => by omega⟩, F11⟩ ⟨rfl, rfl, rfl, rfl, rfl, trivial⟩ (fun i hb _ hi hP hK => ?_) (fun hb hP => ?_)
        · obtain ⟨⟨A9, hA9, hAj⟩, F9⟩ := hP
          by_cases a1 : i = x9
          · refine ev_iload dX1_exchange_20 rfl ?_
            refine ev_bipushZ dX1_exchange_22 rfl ?_
            refine ev_icmp_geZ (tgt := 59) dX1_exchange_24 (by decide) (by omega) (by omega) (fun c24 => by omega) (fun c24 => ?_)
            refine ev_aload_n dX1_exchange_27 rfl ?_
            refine ev_iload dX1_exchange_28 rfl ?_
            refine ev_iload dX1_exchange_30 rfl ?_
            refine ev_iload_n dX1_exchange_32 rfl ?_
            refine ev_icmp_neZ (tgt := 40) dX1_exchange_33 (by decide) (by omega) (by omega) (fun c33 => by omega) (fun c33 => ?_)
            refine ev_iload_n dX1_exchange_36 rfl ?_
            refine ev_goto (tgt := 52) dX1_exchange_37 (by decide) ?_
            refine ev_iastY dX1_exchange_52 hA9 B4 (by omega) trivial (fun hp_1 hA9_2 f3 => ?_)
            have F4 := (F9).writeN (Or.inr ⟨_, hA9_2, Nat.le_of_ble_eq_true rfl⟩) f3 z10
            refine ev_iincZ dX1_exchange_53 rfl (by decide) rfl ?_
            dsimp only [List.set]
            refine ev_goto (tgt := 20) dX1_exchange_56 (by decide) ?_
            refine hK _ _ ⟨rfl, rfl, rfl, rfl, vz_eq (by omega), trivial⟩ ⟨⟨_, hA9_2, fun j hj => ?_⟩, F4⟩
            rw [Int.toNat_natCast]
            by_cases ej : j = i
            · rw [ej, uz_same]; unfold exN; rw [if_pos (by omega)]
            · rw [uz_ne ej]; exact hAj j (by omega)
          · by_cases a2 : i = y9
            · refine ev_iload dX1_exchange_20 rfl ?_
              refine ev_bipushZ dX1_exchange_22 rfl ?_
              refine ev_icmp_geZ (tgt := 59) dX1_exchange_24 (by decide) (by omega) (by omega) (fun c24 => by omega) (fun c24 => ?_)
              refine ev_aload_n dX1_exchange_27 rfl ?_
              refine ev_iload dX1_exchange_28 rfl ?_
              refine ev_iload dX1_exchange_30 rfl ?_
              refine ev_iload_n dX1_exchange_32 rfl ?_
              refine ev_icmp_neZ (tgt := 40) dX1_exchange_33 (by decide) (by omega) (by omega) (fun c33 => ?_) (fun c33 => by omega)
              refine ev_iload dX1_exchange_40 rfl ?_
              refine ev_iload_n dX1_exchange_42 rfl ?_
              refine ev_icmp_neZ (tgt := 50) dX1_exchange_43 (by decide) (by omega) (by omega) (fun c43 => by omega) (fun c43 => ?_)
              refine ev_iload_n dX1_exchange_46 rfl ?_
              refine ev_goto (tgt := 52) dX1_exchange_47 (by decide) ?_
              refine ev_iastY dX1_exchange_52 hA9 B4 (by omega) trivial (fun hp_1 hA9_2 f3 => ?_)
              have F4 := (F9).writeN (Or.inr ⟨_, hA9_2, Nat.le_of_ble_eq_true rfl⟩) f3 z10
              refine ev_iincZ dX1_exchange_53 rfl (by decide) rfl ?_
              dsimp only [List.set]
              refine ev_goto (tgt := 20) dX1_exchange_56 (by decide) ?_
              refine hK _ _ ⟨rfl, rfl, rfl, rfl, vz_eq (by omega), trivial⟩ ⟨⟨_, hA9_2, fun j hj => ?_⟩, F4⟩
              rw [Int.toNat_natCast]
              by_cases ej : j = i
              · rw [ej, uz_same]; unfold exN; rw [if_neg (by omega), if_pos (by omega)]
              · rw [uz_ne ej]; exact hAj j (by omega)
            · refine ev_iload dX1_exchange_20 rfl ?_
              refine ev_bipushZ dX1_exchange_22 rfl ?_
              refine ev_icmp_geZ (tgt := 59) dX1_exchange_24 (by decide) (by omega) (by omega) (fun c24 => by omega) (fun c24 => ?_)
              refine ev_aload_n dX1_exchange_27 rfl ?_
              refine ev_iload dX1_exchange_28 rfl ?_
              refine ev_iload dX1_exchange_30 rfl ?_
              refine ev_iload_n dX1_exchange_32 rfl ?_
              refine ev_icmp_neZ (tgt := 40) dX1_exchange_33 (by decide) (by omega) (by omega) (fun c33 => ?_) (fun c33 => by omega)
              refine ev_iload dX1_exchange_40 rfl ?_
              refine ev_iload_n dX1_exchange_42 rfl ?_
              refine ev_icmp_neZ (tgt := 50) dX1_exchange_43 (by decide) (by omega) (by omega) (fun c43 => ?_) (fun c43 => by omega)
              refine ev_iload dX1_exchange_50 rfl ?_
              refine ev_iastY dX1_exchange_52 hA9 B4 (by omega) trivial (fun hp_1 hA9_2 f3 => ?_)
              have F4 := (F9).writeN (Or.inr ⟨_, hA9_2, Nat.le_of_ble_eq_true rfl⟩) f3 z10
              refine ev_iincZ dX1_exchange_53 rfl (by decide) rfl ?_
              dsimp only [List.set]
              refine ev_goto (tgt := 20) dX1_exchange_56 (by decide) ?_
              refine hK _ _ ⟨rfl, rfl, rfl, rfl, vz_eq (by omega), trivial⟩ ⟨⟨_, hA9_2, fun j hj => ?_⟩, F4⟩
              rw [Int.toNat_natCast]
              by_cases ej : j = i
              · rw [ej, uz_same]; unfold exN; rw [if_neg (by omega), if_neg (by omega)]
              · rw [uz_ne ej]; exact hAj j (by omega)
        · obtain ⟨⟨A9, hA9, hAj⟩, F9⟩ := hP
          have HO1 := F9.keep HO (fun q => by cases q)
          have hSI1 := hSI.fr0 F9
          have hNp := hN
          have hz9 : h q1 = none := z10
          have k1b := F9.keep k1 (fun q => by cases q)
          have hAn : ∀ e : Nat, e < 8 → A9 e = ((exN x9 y9 e : Nat) : Int) := fun e he => hAj e he
          refine ev_iload dX1_exchange_20 rfl ?_
          refine ev_bipushZ dX1_exchange_22 rfl ?_
          refine ev_icmp_geZ (tgt := 59) dX1_exchange_24 (by decide) (by omega) (by omega) (fun c24 => ?_) (fun c24 => by omega)
          refine ev_iconstZ dX1_exchange_59 ?_
          refine ev_istore dX1_exchange_60 (by decide) rfl ?_
          dsimp only [List.set]
          refine ev_aload_n dX1_exchange_62 rfl ?_
          refine ev_getf dX1_exchange_63 gf_X1_37_X1 HO1 rfl ?_
          refine ev_getf dX1_exchange_66 gf_X1_121_X2 k1b rfl ?_
          refine ev_callNR dX1_exchange_69 (nv_X1_252 hG) fe_leaves ((hNp.sub hSI1).cls) rfl rfl (by rw [fam_lv]; exact k_leaves8 hG (hSI1) hNp hl9) (by omega) (by omega) (by omega) (Nat.le_of_ble_eq_true rfl) (fun v1 h1 P1 => ?_)
          obtain ⟨it, ll, J, rfl, GJ, hit, ⟨L1, mc1, W1⟩, hll, F1⟩ := P1
          have HO1_2 := F1.keep HO1 (fun q => by cases q)
          have k1b_3 := F1.keep k1b (fun q => by cases q)
          have hA9_4 := F1.keep hA9 (fun q => by cases q)
          have F5 := (F9).call F1 nil_in
          refine ev_astore dX1_exchange_72 (by decide) rfl ?_
          dsimp only [List.set]
          refine ev_whileB (fun ls9 : List (List Nd) => (leafL ls9.flatten).length) (fun ls9 => pot ls9.flatten + 4000) (fun ls9 => 3 * pot ls9.flatten + 152000) (fun ls9 h2 => ∃ (L : List (Nat × Nat)) (mc : Int), WLh g J hb [ll] h2 ll mc L ls9 ∧ (leafL ls9.flatten).length ≤ 1000 ∧ ∀ u ∈ leafL ls9.flatten, ndOk2 u) (fun ls9 => [some (.ref o), some (vz ((x9 : Nat) : Int)), some (vz ((y9 : Nat) : Int)), some (.ref q1), some (vz (((totB x9 y9 l : Nat) : Int) - ((totB x9 y9 (leafL (ls9).flatten) : Nat) : Int))), some (.ref it), none, none]) [l] ⟨L1, mc1, W1, by rw [List.flatten_singleton]; have := leafL_le l; omega, fun u hu => pf.2.1.2 u (by rw [List.flatten_singleton] at hu; exact (List.mem_filter.mp hu).1)⟩ (by show pot [l].flatten + 4000 ≤ _; rw [List.flatten_singleton]; omega) (by show 3 * pot [l].flatten + 152000 ≤ _; rw [List.flatten_singleton]; omega) ⟨rfl, rfl, rfl, rfl, vz_eq (by rw [List.flatten_singleton, totB_leaf]; omega), rfl, trivial⟩ ?_
          intro ls9 h2 ⟨L, mc, W, hm9, hmo⟩ hK
          have hit1 := W.2.1 _ _ hit
          have hln := W.2.2.2.1.1
          rw [List.length_map] at hln
          have hlv := W.2.2.2.1.leaves
          have hlv2 := leafL_le l
          have hnll : q1 ∉ [ll] := fun e => by rw [← List.mem_singleton.mp e, hA9] at hll; cases hll
          have hA2 := W.2.2.2.2.2.2.keep hA9 hnll
          cases ls9 with
          | nil =>
            have hz : L.length = 0 := by simpa using hln
            have F2b := W.2.2.2.2.2.2.more (S' := []) (fun x hx => Or.inr (Or.inl (by rw [List.mem_singleton.mp hx]; exact hll)))
            have Fb := F9.call F2b nil_in
            have HO2 := F2b.keep HO1 (fun q => by cases q)
            have k1c := F2b.keep k1b (fun q => by cases q)
            have WR2b := WXr.new WR0 Fb
            have hSI2 := hSI.fr0 Fb
            have K2 := K0.fr Fb
            have hcn2 := (hN.sub hSI2).cls
            have h0 : totB x9 y9 (leafL ([] : List (List Nd)).flatten) = 0 := rfl
            by_cases c6 : x9 = y9 ∨ cntL x9 y9 l l.length = 0
            · rw [if_pos (c6.imp (fun e => by rw [e]) id)]
              have h6 := hall.mp c6
              refine ev_aload dX1_exchange_74 rfl ?_
              refine ev_callVE dX1_exchange_76 (cf_X1_256_X18 hG) ce_X18_hasNext hit1 rfl rfl rfl (k_hasNext18 (d := 0) hit W (by omega)) (by omega) (Nat.le_of_ble_eq_true rfl) ?_
              refine ev_if_eqZ (tgt := 126) dX1_exchange_81 (by decide) (by rw [if_pos hz]; omega) (fun c81 => ?_) (fun c81 => absurd (if_pos hz) c81)
              refine ev_aload_n dX1_exchange_126 rfl ?_
              refine ev_iload dX1_exchange_127 rfl ?_
              refine ev_if_leZ (tgt := 136) dX1_exchange_129 (by decide) (by omega) (fun c129 => ?_) (fun c129 => by omega)
              refine ev_iconstZ dX1_exchange_136 ?_
              refine ev_bipushZ dX1_exchange_137 rfl ?_
              refine ev_callV dX1_exchange_139 cv_X1_125_X1 ce_X1_checkReason HO2 rfl rfl rfl (k_checkReasonF HO2 hBo (y := 6) (b := false) hG rfl) (by omega) (by omega) (by omega) (Nat.le_of_ble_eq_true rfl) (fun v h2 q => ?_) (fun E q h2 r9 => ?_)
              · obtain ⟨q9, e9, -⟩ := q; cases e9
              · obtain ⟨q9, e9, e8, e7⟩ := r9
                cases e9
                have W9 : WX g N B h2 o (wReason σ 6) := ⟨_, own, _, us, cl, ud, uv, uh, ib, iv, ic, os, ow, sdv, scv, lev, cs, e8, WXr.self WR2b e7⟩
                exact evx_out rfl (XQ.no (by decide) rfl (W9.le (Nat.le_succ N)) ((Fb.more (S' := [o]) (fun x hx => by cases hx)).call e7 (fun x hx => Or.inl hx)) (fun x hx => by rw [List.mem_singleton.mp hx]; exact WR.nB))
            · rw [if_neg (fun q => c6 (q.imp (fun e => by omega) id))]
              have h6 : totB x9 y9 l ≠ 0 := fun q => c6 (hall.mpr q)
              refine ev_aload dX1_exchange_74 rfl ?_
              refine ev_callVE dX1_exchange_76 (cf_X1_256_X18 hG) ce_X18_hasNext hit1 rfl rfl rfl (k_hasNext18 (d := 0) hit W (by omega)) (by omega) (Nat.le_of_ble_eq_true rfl) ?_
              refine ev_if_eqZ (tgt := 126) dX1_exchange_81 (by decide) (by rw [if_pos hz]; omega) (fun c81 => ?_) (fun c81 => absurd (if_pos hz) c81)
              refine ev_aload_n dX1_exchange_126 rfl ?_
              refine ev_iload dX1_exchange_127 rfl ?_
              refine ev_if_leZ (tgt := 136) dX1_exchange_129 (by decide) (by omega) (fun c129 => by omega) (fun c129 => ?_)
              refine ev_iconstZ dX1_exchange_132 ?_
              refine ev_goto (tgt := 137) dX1_exchange_133 (by decide) ?_
              refine ev_bipushZ dX1_exchange_137 rfl ?_
              refine ev_callVN dX1_exchange_139 cv_X1_125_X1 ce_X1_checkReason HO2 rfl rfl rfl (k_checkReasonT (d := 0) HO2 hBo (y := 6) (b := true) rfl) (by omega) (Nat.le_of_ble_eq_true rfl) ?_
              refine ev_aload_n dX1_exchange_142 rfl ?_
              refine ev_aload_n dX1_exchange_143 rfl ?_
              refine ev_getf dX1_exchange_144 gf_X1_37_X1 HO2 rfl ?_
              refine ev_getf dX1_exchange_147 gf_X1_121_X2 k1c rfl ?_
              refine ev_aload_n dX1_exchange_150 rfl ?_
              refine ev_callNR dX1_exchange_151 (nv_X1_271 hG) fe_renamed hcn2 rfl rfl (n_renamed hG hAn 81 pp l I hN (by omega) pf.2.1.2 I h2 (Sub.refl I) hSI2 K2 hA2) (by omega) (by omega) (by omega) (Nat.le_of_ble_eq_true rfl) (fun v1 hk P1 => ?_)
              obtain ⟨r, J2, rfl, G2, hN2, F2⟩ := P1
              have Fk := Fb.call F2 nil_in
              have G3 := (Gw.refl hSI).fr0 Fb
              have WR3 := WXr.gw WR0 (by rw [HO0]; exact fun q => by cases q) (G3.trans Fb G2) Fk
              have HOk := F2.keep HO2 (fun q => by cases q)
              refine ev_callVR dX1_exchange_154 cv_X1_186_X1 ce_X1_setPiece HOk rfl rfl rfl (k_setPieceX1 hG HOk WR3 hN2 pq.1 pq.2.1 (by unfold exL; rw [List.length_map]; omega) (Nat.le_refl 510) (Nat.le_refl 30) (Nat.le_refl 1000)) (by omega) (by omega) (by omega) (Nat.le_of_ble_eq_true rfl) (fun v2 h9 P2 => ?_)
              obtain ⟨rfl, W9, hS9, S9, F9c, hB9⟩ := P2
              refine ev_iload dX1_exchange_157 rfl ?_
              refine ev_ireturn dX1_exchange_159 rfl ?_
              have ev : ((cntL x9 y9 l l.length : Nat) : Int) = ((totB x9 y9 l : Nat) : Int) - ((totB x9 y9 (leafL ([] : List (List Nd)).flatten) : Nat) : Int) := by rw [hcnt (fun e => c6 (Or.inl e)), h0]; omega
              rw [ev]
              exact XQ.ok W9 ((Fk.more (S' := S9) (fun x hx => by cases hx)).call F9c (fun x hx => Or.inl hx)) hB9
          | cons c9 ls9 =>
            have hz : ¬ L.length = 0 := by rw [hln, List.length_cons]; omega
            obtain ⟨⟨n9, q9⟩, t9, rfl⟩ : ∃ (x : Nat × Nat) (t : List (Nat × Nat)), L = x :: t := by
              cases L with
              | nil => exact absurd rfl hz
              | cons x t => exact ⟨x, t, rfl⟩
            obtain ⟨nd, ls0, k1, g1, g2, g3, g4, kN⟩ := k_next2 hG hit W
            have htv : totB x9 y9 (leafL (c9 :: ls9).flatten) = tvB x9 y9 nd + totB x9 y9 (leafL (ls0 ++ ls9).flatten) := by rw [g2]; rfl
            by_cases hp1 : nd.1 ≤ 1
            · have hds9 : ∀ u ∈ nd.2.2.2.1, u < 8 := ndOk2_ds (hmo nd (by rw [g2]; exact List.mem_cons_self)) hp1
              have ht9 : tvB x9 y9 nd = chB x9 y9 nd.2.2.2.1 := if_pos hp1
              refine ev_aload dX1_exchange_74 rfl ?_
              refine ev_callVE dX1_exchange_76 (cf_X1_256_X18 hG) ce_X18_hasNext hit1 rfl rfl rfl (k_hasNext18 (d := 0) hit W (by omega)) (by omega) (Nat.le_of_ble_eq_true rfl) ?_
              refine ev_if_eqZ (tgt := 126) dX1_exchange_81 (by decide) (by rw [if_neg hz]; omega) (fun c81 => absurd c81 (by rw [if_neg hz]; decide)) (fun c81 => ?_)
              refine ev_iload dX1_exchange_84 rfl ?_
              refine ev_aload dX1_exchange_86 rfl ?_
              refine ev_callVR dX1_exchange_88 (cf_X1_262_X18 hG) ce_X18_next hit1 rfl rfl rfl (k_next18 hG hit1 (kN _ _ 6 (Nat.le_refl _) (Nat.le_refl _) (by omega)) (Nat.le_refl 7)) (by omega) (by omega) (by omega) (Nat.le_of_ble_eq_true rfl) (fun v9 h2 P9 => ?_)
              obtain ⟨r, L', mc', rfl, hnd, W'⟩ := P9
              obtain ⟨as9, hnd9⟩ := hnd
              have hA3 := W'.2.2.2.2.2.2.keep hA9 hnll
              obtain ⟨da, st9, sv9, D9, e9, g7, g8, g9, g10, g11, g12⟩ := (hnd9.sub W'.2.1).1 hp1
              refine ev_astore dX1_exchange_93 (by decide) rfl ?_
              dsimp only [List.set]
              refine ev_aload dX1_exchange_95 rfl ?_
              refine ev_instPhr (κ := nd.1) hG dX1_exchange_97 q2234 ((hnd9.sub W'.2.1).cls) ?_
              refine ev_if_eqZ (tgt := 119) dX1_exchange_100 (by decide) (by rw [if_pos hp1]; omega) (fun c100 => absurd c100 (by rw [if_pos hp1]; decide)) (fun c100 => ?_)
              refine ev_aload dX1_exchange_103 rfl ?_
              refine ev_castY dX1_exchange_105 q2234 g7 rfl (Or.inl rfl) ?_
              refine ev_astore dX1_exchange_108 (by decide) rfl ?_
              dsimp only [List.set]
              refine ev_aload dX1_exchange_110 rfl ?_
              refine ev_aload_n dX1_exchange_112 rfl ?_
              refine ev_callVE dX1_exchange_113 cv_X1_267_X13 ce_X13_changedBy g7 rfl rfl rfl (k_changedBy hG hA3 g7 g8 g9 hds9 hAn g12 hx8 hy8) (by omega) (Nat.le_of_ble_eq_true rfl) ?_
              refine ev_goto (tgt := 120) dX1_exchange_116 (by decide) ?_
              refine ev_iaddZ dX1_exchange_120 ?_
              refine ev_istore dX1_exchange_121 (by decide) rfl ?_
              dsimp only [List.set]
              refine ev_goto (tgt := 74) dX1_exchange_123 (by decide) ?_
              refine hK (ls0 ++ ls9) _ _ _ _ ?_ ?_ ?_ ⟨rfl, rfl, rfl, rfl, vz_eq ?_, rfl, trivial⟩ ⟨L', mc', W', by rw [g2, List.length_cons] at hm9; omega, fun u hu => hmo u (by rw [g2]; exact List.mem_cons_of_mem _ hu)⟩
              · show (leafL _).length < (leafL _).length; rw [g2]; exact Nat.lt_succ_self _
              · show pot _ + 4000 ≤ _; omega
              · show 3 * pot _ + 152000 ≤ _; omega
              · rw [htv]; omega
            · have ht9 : tvB x9 y9 nd = 0 := if_neg hp1
              refine ev_aload dX1_exchange_74 rfl ?_
              refine ev_callVE dX1_exchange_76 (cf_X1_256_X18 hG) ce_X18_hasNext hit1 rfl rfl rfl (k_hasNext18 (d := 0) hit W (by omega)) (by omega) (Nat.le_of_ble_eq_true rfl) ?_
              refine ev_if_eqZ (tgt := 126) dX1_exchange_81 (by decide) (by rw [if_neg hz]; omega) (fun c81 => absurd c81 (by rw [if_neg hz]; decide)) (fun c81 => ?_)
              refine ev_iload dX1_exchange_84 rfl ?_
              refine ev_aload dX1_exchange_86 rfl ?_
              refine ev_callVR dX1_exchange_88 (cf_X1_262_X18 hG) ce_X18_next hit1 rfl rfl rfl (k_next18 hG hit1 (kN _ _ 6 (Nat.le_refl _) (Nat.le_refl _) (by omega)) (Nat.le_refl 7)) (by omega) (by omega) (by omega) (Nat.le_of_ble_eq_true rfl) (fun v9 h2 P9 => ?_)
              obtain ⟨r, L', mc', rfl, hnd, W'⟩ := P9
              obtain ⟨as9, hnd9⟩ := hnd
              have hA3 := W'.2.2.2.2.2.2.keep hA9 hnll
              refine ev_astore dX1_exchange_93 (by decide) rfl ?_
              dsimp only [List.set]
              refine ev_aload dX1_exchange_95 rfl ?_
              refine ev_instPhr (κ := nd.1) hG dX1_exchange_97 q2234 ((hnd9.sub W'.2.1).cls) ?_
              refine ev_if_eqZ (tgt := 119) dX1_exchange_100 (by decide) (by rw [if_neg hp1]; omega) (fun c100 => ?_) (fun c100 => absurd (if_neg hp1) c100)
              refine ev_iconstZ dX1_exchange_119 ?_
              refine ev_iaddZ dX1_exchange_120 ?_
              refine ev_istore dX1_exchange_121 (by decide) rfl ?_
              dsimp only [List.set]
              refine ev_goto (tgt := 74) dX1_exchange_123 (by decide) ?_
              refine hK (ls0 ++ ls9) _ _ _ _ ?_ ?_ ?_ ⟨rfl, rfl, rfl, rfl, vz_eq ?_, rfl, trivial⟩ ⟨L', mc', W', by rw [g2, List.length_cons] at hm9; omega, fun u hu => hmo u (by rw [g2]; exact List.mem_cons_of_mem _ hu)⟩
              · show (leafL _).length < (leafL _).length; rw [g2]; exact Nat.lt_succ_self _
              · show pot _ + 4000 ≤ _; omega
              · show 3 * pot _ + 152000 ≤ _; omega
              · rw [htv]; omega
    · rw [if_neg (fun q => c8 q.2)]
      replace W := W.le (Nat.le_succ N)
      refine ev_iload_n dX1_exchange_0 rfl ?_
      refine ev_callSN dX1_exchange_1 cs_X1_140 ce_X1_checkDancer rfl rfl (k_checkDancerT (d := 0) hr1 c9) (by omega) (Nat.le_of_ble_eq_true rfl) ?_
      refine ev_iload_n dX1_exchange_4 rfl ?_
      refine ev_callS dX1_exchange_5 cs_X1_140 ce_X1_checkDancer rfl rfl (k_checkDancerF hG hr2 c8) (by omega) (by omega) (by omega) (Nat.le_of_ble_eq_true rfl) (fun v h2 q => ?_) (fun E q h2 r => ?_)
      · obtain ⟨q9, e9, -⟩ := q; cases e9
      · obtain ⟨q9, e9, rfl⟩ := r
        cases e9
        exact evx_out rfl (XQ.no (by decide) rfl W (Fr.refl _ []) nil_B)
  · rw [if_neg (fun q => c9 q.1)]
    replace W := W.le (Nat.le_succ N)
    refine ev_iload_n dX1_exchange_0 rfl ?_
    refine ev_callS dX1_exchange_1 cs_X1_140 ce_X1_checkDancer rfl rfl (k_checkDancerF hG hr1 c9) (by omega) (by omega) (by omega) (Nat.le_of_ble_eq_true rfl) (fun v h2 q => ?_) (fun E q h2 r => ?_)
    · obtain ⟨q9, e9, -⟩ := q; cases e9
    · obtain ⟨q9, e9, rfl⟩ := r
      cases e9
      exact evx_out rfl (XQ.no (by decide) rfl W (Fr.refl _ []) nil_B)
end Y2S

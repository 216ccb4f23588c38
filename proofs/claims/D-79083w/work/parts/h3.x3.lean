/-! THE COMPONENT: the class, problems, distance, means (printed by gen) -/
section X3S
variable {g : GB} {M : MI} {d c k : Nat} {h : HM}
variable {N : Nat} {B : Nat → Prop} {o : Nat} {σ : Sp}
theorem WX.new {h' : HM} (W : WX g N B h o σ) (F : Fr g h h' []) : WX g N B h' o σ := by
  obtain ⟨I, own, p, us, cl, ud, uv, uh, ib, iv, ic, os, ow, sdv, scv, lev, cs, HO, WR⟩ := W
  exact ⟨I, own, p, us, cl, ud, uv, uh, ib, iv, ic, os, ow, sdv, scv, lev, cs, F.keep HO (fun q => by cases q), WR.new F⟩
theorem WX.newQ {h' : HM} {C : Int → String} {v : Int} (W : WX g N B h o σ) (F : Fr g h h' []) : XQ g N B h o C (0, v, σ) (.inl (some (vz v))) h' := XQ.ok (W.new F) F nil_B
theorem WX.newX {h' : HM} {C : Int → String} {m v : Int} {q : Nat} {E : String} (hm : m ≠ 0) (hE : C m = E) (W : WX g N B h o σ) (F : Fr g h h' []) : XQ g N B h o C (m, v, σ) (.inr (E, q)) h' := XQ.no hm hE (W.new F) F nil_B
/-- problems of a kind -/
def cnP (kd : Nat) (L : List Pr) : Nat := (L.filter (fun x => decide (kd = 0 ∨ x.2.1 = kd))).length
theorem cnP_take {kd i : Nat} {L : List Pr} {y : Pr} (h : L[i]? = some y) : cnP kd (L.take (i + 1)) = cnP kd (L.take i) + (if kd = 0 ∨ y.2.1 = kd then 1 else 0) := by
  unfold cnP
  rw [take_snoc h, List.filter_append, List.length_append]
  by_cases e : kd = 0 ∨ y.2.1 = kd
  · rw [if_pos e, List.filter_cons_of_pos (by simpa using e)]; rfl
  · rw [if_neg e, List.filter_cons_of_neg (by simpa using e)]; rfl
theorem cnP_le (kd : Nat) (L : List Pr) : cnP kd L ≤ L.length := List.length_filter_le _ _
theorem lkE_kd {D : Dn} {P : Pt} {k q e1 e0 : Nat} : ∀ n, ∀ x ∈ lkE D P k q e1 e0 n, x.2.1 = q := by
  intro n
  induction n with
  | zero => intro x hx; cases hx
  | succ n ih =>
    intro x hx
    rcases List.mem_append.mp hx with h | h
    · exact ih x h
    · split at h
      · rw [List.mem_singleton.mp h]
      · cases h
theorem lkD_kd {D : Dn} {P : Pt} {k q : Nat} : ∀ n, ∀ x ∈ lkD D P k q n, x.2.1 = q := by
  intro n
  induction n with
  | zero => intro x hx; cases hx
  | succ n ih =>
    intro x hx
    rcases List.mem_append.mp hx with h | h
    · exact ih x h
    · exact lkE_kd _ x h
theorem srQ_kd (D : Dn) (P : Pt) (kd k : Nat) : ∀ n, srQ D P kd k n = (srQ D P 0 k n).filter (fun x => decide (kd = 0 ∨ x.2.1 = kd)) := by
  intro n
  induction n with
  | zero => rfl
  | succ n ih =>
    show srQ D P kd k n ++ _ = (srQ D P 0 k n ++ _).filter _
    rw [List.filter_append, ← ih, if_pos (Or.inl rfl)]
    congr 1
    by_cases c : kd = 0 ∨ kd = n + 1
    · rw [if_pos c]
      symm
      rw [List.filter_eq_self]
      intro x hx
      rw [lkD_kd 8 x hx]
      exact decide_eq_true (c.imp id Eq.symm)
    · rw [if_neg c]
      symm
      rw [List.filter_eq_nil_iff]
      intro x hx
      rw [lkD_kd 8 x hx]
      exact fun q => c ((of_decide_eq_true q).imp id Eq.symm)
theorem srK_kd (D : Dn) (P : Pt) (kd : Nat) : ∀ n, srK D P kd n = (srK D P 0 n).filter (fun x => decide (kd = 0 ∨ x.2.1 = kd)) := by
  intro n
  induction n with
  | zero => rfl
  | succ n ih =>
    show srK D P kd n ++ srQ D P kd n 4 = (srK D P 0 n ++ srQ D P 0 n 4).filter _
    rw [List.filter_append, ← ih, ← srQ_kd]
theorem srQ_4 {D : Dn} {P : Pt} {kd k : Nat} : ∀ n, ∀ x ∈ srQ D P kd k n, x.2.1 ≤ n := by
  intro n
  induction n with
  | zero => intro x hx; cases hx
  | succ n ih =>
    intro x hx
    rcases List.mem_append.mp hx with h | h
    · have := ih x h; omega
    · split at h
      · rw [lkD_kd 8 x h]; exact Nat.le_refl _
      · cases h
theorem srK_4 {D : Dn} {P : Pt} {kd : Nat} : ∀ n, ∀ x ∈ srK D P kd n, x.2.1 ≤ 4 := by
  intro n
  induction n with
  | zero => intro x hx; cases hx
  | succ n ih =>
    intro x hx
    rcases List.mem_append.mp hx with h | h
    · exact ih x h
    · exact srQ_4 4 x h
set_option maxRecDepth 100000 in
set_option maxHeartbeats 4000000 in
theorem kx_problemCount (hG : GKx g) (K0 : KC g h) (W : WX g N B h o σ) (hO : spOk σ) (hL : dnLn σ.1) {x : Int} (hr1 : inR x) (hd : 500 ≤ d) (hc : 14500 ≤ c) (hk : 91000 ≤ k) : Kc g mX1_problemCount d c k [.ref o, vz x] h (XQ g N B h o (fun m : Int => if m = 1 then "java/lang/IllegalArgumentException" else "java/lang/IllegalStateException") (opPrCount σ x)) := by
  refine Kc.of (ls := [some (.ref o), some (vz x), none, none, none]) (by decide +kernel) (Nat.le_of_ble_eq_true rfl) rfl ?_
  obtain ⟨I, own, ⟨pid, a, st, fo⟩, us, cl, ud, uv, uh, ib, iv, ic, os, ow, sdv, scv, lev, cs, HO, WR⟩ := id W
  have HO : h o = some (.inr (0, [.ref a, .ref cl, .ref ud, sdv, scv, .ref ib, .ref os, lev, vz σ.2.2.2.2.2.1, vz σ.2.2.2.2.1])) := HO
  obtain ⟨⟨hBo, ho1, hIo⟩, ⟨hSI, hCI, hBB⟩, KD, KCs, KU, KN, KS, KI, KOu, KE⟩ := id WR
  have H : DnC g I h a st fo σ.1 := KD.1
  have dO := hO.1
  obtain ⟨A, Bf, pv, sv, KDA, hA, hB9, hV⟩ := id H
  obtain ⟨k1, k2, k3, k4, k5, k6, k7, k8⟩ := id KDA
  unfold opPrCount
  by_cases c9 : 0 ≤ x ∧ x ≤ 4
  · rw [if_pos c9]
    cases hp9 : σ.1.2.2.2 with
    | none =>
      rw [withP_none hp9]
      refine ev_iload_n dX1_problemCount_0 rfl ?_
      refine ev_i2l dX1_problemCount_1 ?_
      refine ev_lconst0 dX1_problemCount_2 ?_
      refine ev_ldc2V (x := 4) dX1_problemCount_3 q2281 (by decide) ?_
      refine ev_callSE dX1_problemCount_6 cs_X1_108 ce_X1_inRange rfl rfl (k_inRange (d := 0) (a := x) (lo := 0) (hi := 4) (by omega)) (by omega) (Nat.le_of_ble_eq_true rfl) ?_
      refine ev_callSN dX1_problemCount_9 cs_X1_133 ce_X1_checkArgument rfl rfl (k_checkArgumentT (d := 0) (decide_eq_true c9)) (by omega) (Nat.le_of_ble_eq_true rfl) ?_
      refine ev_aload_n dX1_problemCount_12 rfl ?_
      refine ev_callV dX1_problemCount_13 cv_X1_209_X1 ce_X1_checkPiece HO rfl rfl rfl (k_checkPieceF H HO hBo hG hp9) (by omega) (by omega) (by omega) (Nat.le_of_ble_eq_true rfl) (fun v h2 q => ?_) (fun E q h2 r => ?_)
      · obtain ⟨q9, e9, -⟩ := q; cases e9
      · obtain ⟨q9, e9, e8, e7⟩ := r
        cases e9
        exact evx_out rfl (XQ.no (by decide) rfl ⟨I, own, (pid, a, st, fo), us, cl, ud, uv, uh, ib, iv, ic, os, ow, sdv, scv, lev, cs, e8, WR.self e7⟩ e7 (fun x hx => by rw [List.mem_singleton.mp hx]; exact WR.nB))
    | some l =>
      rw [withP_some hp9]
      rw [hp9] at hV
      obtain ⟨pp, sc, ss, cu, ru, rfl, rfl, hN, SA, SB, ⟨s1, s2, s3, s4, s5, s6, s7⟩, hSA, hSB⟩ := hV
      have pf := pf_dn dO hp9
      replace s1 := hSI _ _ s1
      replace s2 := hSI _ _ s2
      have hcn := (hN.sub hSI).cls
      obtain ⟨kd, rfl⟩ := toB x c9.1
      have hkp := kP_72 (D := σ.1) pf.2.2.1
      have hPr := k_problems (d := 411) (c := 6 + 2 * (srK σ.1 (mean l) 0 ((mean l).1.1 + 1)).length) (k := 41 + kP (srK σ.1 (mean l) 0 ((mean l).1.1 + 1)).length) hG K0 hSI H hp9 rfl dO (by have := hL l hp9; omega) (Nat.le_refl _) (Nat.le_refl _) (Nat.le_refl _)
      refine ev_iload_n dX1_problemCount_0 rfl ?_
      refine ev_i2l dX1_problemCount_1 ?_
      refine ev_lconst0 dX1_problemCount_2 ?_
      refine ev_ldc2V (x := 4) dX1_problemCount_3 q2281 (by decide) ?_
      refine ev_callSE dX1_problemCount_6 cs_X1_108 ce_X1_inRange rfl rfl (k_inRange (d := 0) (a := ((kd : Nat) : Int)) (lo := 0) (hi := 4) (by omega)) (by omega) (Nat.le_of_ble_eq_true rfl) ?_
      refine ev_callSN dX1_problemCount_9 cs_X1_133 ce_X1_checkArgument rfl rfl (k_checkArgumentT (d := 0) (decide_eq_true c9)) (by omega) (Nat.le_of_ble_eq_true rfl) ?_
      refine ev_aload_n dX1_problemCount_12 rfl ?_
      refine ev_callVN dX1_problemCount_13 cv_X1_209_X1 ce_X1_checkPiece HO rfl rfl rfl (k_checkPieceT (d := 0) H HO hBo hp9) (by omega) (Nat.le_of_ble_eq_true rfl) ?_
      refine ev_iconstZ dX1_problemCount_16 ?_
      refine ev_istore_n dX1_problemCount_17 (by decide) rfl ?_
      dsimp only [List.set]
      refine ev_aload_n dX1_problemCount_18 rfl ?_
      refine ev_getf dX1_problemCount_19 gf_X1_37_X1 HO rfl ?_
      refine ev_callVR dX1_problemCount_22 cv_X1_302_X2 ce_X2_problems k1 rfl rfl rfl hPr (by omega) (by omega) (by omega) (Nat.le_of_ble_eq_true rfl) (fun v9 h1 P9 => ?_)
      obtain ⟨pl, X, rfl, ⟨v, rs, LA, hrl, hrc, -, -⟩, F1⟩ := P9
      have LA1 := LA.1
      rw [hrl] at LA1
      refine ev_callVR dX1_problemCount_25 cv_X1_306_J26 ce_J26_iterator LA1 rfl rfl rfl (al_iter LA1) (by omega) (by omega) (by omega) (Nat.le_of_ble_eq_true rfl) (fun v9 h2 P9 => ?_)
      obtain ⟨it, rfl, zit, Bit, hit, F2⟩ := P9
      refine ev_astore_n dX1_problemCount_28 (by decide) rfl ?_
      dsimp only [List.set]
      refine ev_for (st := []) (srK σ.1 (mean l) 0 ((mean l).1.1 + 1)).length (fun i h3 => ∃ last : Int, h3 it = some (.inr (31, [vz ((i : Nat) : Int), vz last, vz (((srK σ.1 (mean l) 0 ((mean l).1.1 + 1)).length : Nat) : Int), .ref pl])) ∧ Fr g h2 h3 [it]) (fun i => [some (.ref o), some (vz ((kd : Nat) : Int)), some (vz ((cnP kd ((srK σ.1 (mean l) 0 ((mean l).1.1 + 1)).take i) : Nat) : Int)), some (.ref it), none]) 0 (Nat.zero_le _) ⟨-1, hit, Fr.refl _ _⟩ ⟨rfl, rfl, rfl, rfl, trivial⟩ (fun i h3 _ hi hP3 hK => ?_) (fun h3 hP3 => ?_)
      · obtain ⟨last, hit3, F3⟩ := hP3
        have LA3 := (LA.fr F2 (fun q => by cases q) (fun _ q => by cases q)).fr F3 (fun q => ne_of (F2.keep LA.1 (fun q => by cases q)) hit (by simp) (List.mem_singleton.mp q)) (fun _ q => by obtain ⟨fq, a3, -⟩ := id LA.2.2.1; exact ne_of (F2.keep a3 (fun q => by cases q)) hit (by simp) (List.mem_singleton.mp q))
        have LA31 := LA3.1
        rw [hrl] at LA31
        obtain ⟨y, hy⟩ : ∃ y, (srK σ.1 (mean l) 0 ((mean l).1.1 + 1))[i]? = some y := ⟨_, List.getElem?_eq_getElem hi⟩
        obtain ⟨x, hx⟩ : ∃ x, rs[i]? = some x := ⟨_, List.getElem?_eq_getElem (by omega)⟩
        have hy4 := srK_4 _ y (List.mem_of_getElem? hy)
        have hcl := cnP_le kd ((srK σ.1 (mean l) 0 ((mean l).1.1 + 1)).take i)
        rw [List.length_take] at hcl
        refine ev_aload_n dX1_problemCount_29 rfl ?_
        refine ev_callVE dX1_problemCount_30 (cf_X1_256_J30 hG) ce_J30_hasNext hit3 rfl rfl rfl (it_hasNext (i := i) hit3 LA31 (by omega)) (by omega) (Nat.le_of_ble_eq_true rfl) ?_
        refine ev_if_eqZ (tgt := 72) dX1_problemCount_35 (by decide) (by split <;> omega) (fun c35 => by rw [if_pos hi] at c35; cases c35) (fun c35 => ?_)
        refine ev_aload_n dX1_problemCount_38 rfl ?_
        refine ev_callVR dX1_problemCount_39 (cf_X1_262_J30 hG) ce_J30_next hit3 rfl rfl rfl (it_next (i := i) (l := rs) hit3 Bit LA3 (by omega) (by omega) hx) (by omega) (by omega) (by omega) (Nat.le_of_ble_eq_true rfl) (fun v9 h4 P9 => ?_)
        obtain ⟨rfl, hit4, F4⟩ := P9
        have F23 := (F2.call F3 (fun x hx => Or.inr (Or.inl (by rw [List.mem_singleton.mp hx]; exact zit)))).call F4 (fun x hx => Or.inr (Or.inl (by rw [List.mem_singleton.mp hx]; exact zit)))
        obtain ⟨A4, hx4, hA0, hA1, hA2, hA3⟩ := hrc i x y hx hy
        replace hx4 := F23.keep hx4 (fun q => by cases q)
        refine ev_castA dX1_problemCount_44 q2402 hx4 rfl (by decide) ?_
        refine ev_astore dX1_problemCount_47 (by decide) rfl ?_
        dsimp only [List.set]
        refine ev_iload_n dX1_problemCount_49 rfl ?_
        refine ev_iload_n dX1_problemCount_50 rfl ?_
        refine ev_if_eqZ (tgt := 62) dX1_problemCount_51 (by decide) (by omega) (fun c51 => ?_) (fun c51 => ?_)
        · refine ev_iconstZ dX1_problemCount_62 ?_
          refine ev_goto (tgt := 67) dX1_problemCount_63 (by decide) ?_
          refine ev_iaddZ dX1_problemCount_67 ?_
          refine ev_istore_n dX1_problemCount_68 (by decide) rfl ?_
          dsimp only [List.set]
          refine ev_goto (tgt := 29) dX1_problemCount_69 (by decide) ?_
          refine hK _ _ ⟨rfl, rfl, vz_eq ?_, rfl, trivial⟩ ⟨_, hit4, F3.call F4 (fun x hx => Or.inl hx)⟩
          rw [cnP_take hy]
          first | rw [if_pos (by omega)]; omega | rw [if_neg (by omega)]; omega
        · refine ev_aload dX1_problemCount_54 rfl ?_
          refine ev_iconstZ dX1_problemCount_56 ?_
          refine ev_ialdY dX1_problemCount_57 hx4 (by omega) ?_
          rw [show ((1 : Int)).toNat = 1 from rfl, hA1]
          refine ev_iload_n dX1_problemCount_58 rfl ?_
          refine ev_icmp_neZ (tgt := 66) dX1_problemCount_59 (by decide) (by omega) (by omega) (fun c59 => ?_) (fun c59 => ?_)
          · refine ev_iconstZ dX1_problemCount_66 ?_
            refine ev_iaddZ dX1_problemCount_67 ?_
            refine ev_istore_n dX1_problemCount_68 (by decide) rfl ?_
            dsimp only [List.set]
            refine ev_goto (tgt := 29) dX1_problemCount_69 (by decide) ?_
            refine hK _ _ ⟨rfl, rfl, vz_eq ?_, rfl, trivial⟩ ⟨_, hit4, F3.call F4 (fun x hx => Or.inl hx)⟩
            rw [cnP_take hy]
            first | rw [if_pos (by omega)]; omega | rw [if_neg (by omega)]; omega
          · refine ev_iconstZ dX1_problemCount_62 ?_
            refine ev_goto (tgt := 67) dX1_problemCount_63 (by decide) ?_
            refine ev_iaddZ dX1_problemCount_67 ?_
            refine ev_istore_n dX1_problemCount_68 (by decide) rfl ?_
            dsimp only [List.set]
            refine ev_goto (tgt := 29) dX1_problemCount_69 (by decide) ?_
            refine hK _ _ ⟨rfl, rfl, vz_eq ?_, rfl, trivial⟩ ⟨_, hit4, F3.call F4 (fun x hx => Or.inl hx)⟩
            rw [cnP_take hy]
            first | rw [if_pos (by omega)]; omega | rw [if_neg (by omega)]; omega
      · obtain ⟨last, hit3, F3⟩ := hP3
        have LA3 := (LA.fr F2 (fun q => by cases q) (fun _ q => by cases q)).fr F3 (fun q => ne_of (F2.keep LA.1 (fun q => by cases q)) hit (by simp) (List.mem_singleton.mp q)) (fun _ q => by obtain ⟨fq, a3, -⟩ := id LA.2.2.1; exact ne_of (F2.keep a3 (fun q => by cases q)) hit (by simp) (List.mem_singleton.mp q))
        have LA31 := LA3.1
        rw [hrl] at LA31
        refine ev_aload_n dX1_problemCount_29 rfl ?_
        refine ev_callVE dX1_problemCount_30 (cf_X1_256_J30 hG) ce_J30_hasNext hit3 rfl rfl rfl (it_hasNext (i := (srK σ.1 (mean l) 0 ((mean l).1.1 + 1)).length) hit3 LA31 (by omega)) (by omega) (Nat.le_of_ble_eq_true rfl) ?_
        refine ev_if_eqZ (tgt := 72) dX1_problemCount_35 (by decide) (by split <;> omega) (fun c35 => ?_) (fun c35 => by rw [if_neg (Nat.lt_irrefl _)] at c35; exact absurd rfl c35)
        refine ev_iload_n dX1_problemCount_72 rfl ?_
        refine ev_ireturn dX1_problemCount_73 rfl ?_
        rw [List.take_length, show cnP kd (srK σ.1 (mean l) 0 ((mean l).1.1 + 1)) = (prL σ.1 (mean l) ((kd : Nat) : Int).toNat).length by unfold prL cnP; rw [Int.toNat_natCast, ← srK_kd]]
        exact W.newQ ((F1.call F2 nil_in).call F3 (fun x hx => Or.inr (Or.inl (by rw [List.mem_singleton.mp hx]; exact F1.fresh zit))))
  · rw [if_neg c9]
    refine ev_iload_n dX1_problemCount_0 rfl ?_
    refine ev_i2l dX1_problemCount_1 ?_
    refine ev_lconst0 dX1_problemCount_2 ?_
    refine ev_ldc2V (x := 4) dX1_problemCount_3 q2281 (by decide) ?_
    refine ev_callSE dX1_problemCount_6 cs_X1_108 ce_X1_inRange rfl rfl (k_inRange (d := 0) (a := x) (lo := 0) (hi := 4) (by omega)) (by omega) (Nat.le_of_ble_eq_true rfl) ?_
    refine ev_callS dX1_problemCount_9 cs_X1_133 ce_X1_checkArgument rfl rfl (k_checkArgumentF hG (decide_eq_false c9)) (by omega) (by omega) (by omega) (Nat.le_of_ble_eq_true rfl) (fun v h2 q => ?_) (fun E q h2 r => ?_)
    · obtain ⟨q9, e9, -⟩ := q; cases e9
    · obtain ⟨q9, e9, rfl⟩ := r
      cases e9
      exact evx_out rfl (XQ.no (by decide) rfl W (Fr.refl _ []) nil_B)
set_option maxRecDepth 100000 in
set_option maxHeartbeats 4000000 in
theorem kx_problem (hG : GKx g) (K0 : KC g h) (W : WX g N B h o σ) (hO : spOk σ) (hL : dnLn σ.1) {x y : Int} (hr1 : inR x) (hr2 : inR y) (hd : 500 ≤ d) (hc : 14500 ≤ c) (hk : 91000 ≤ k) : Kc g mX1_problem d c k [.ref o, vz x, vz y] h (XQ g N B h o (fun m : Int => if m = 1 then "java/lang/IllegalArgumentException" else if m = 2 then "java/lang/IllegalStateException" else "java/util/NoSuchElementException") (opProblem σ x y)) := by
  refine Kc.of (ls := [some (.ref o), some (vz x), some (vz y), none]) (by decide +kernel) (Nat.le_of_ble_eq_true rfl) rfl ?_
  obtain ⟨I, own, ⟨pid, a, st, fo⟩, us, cl, ud, uv, uh, ib, iv, ic, os, ow, sdv, scv, lev, cs, HO, WR⟩ := id W
  have HO : h o = some (.inr (0, [.ref a, .ref cl, .ref ud, sdv, scv, .ref ib, .ref os, lev, vz σ.2.2.2.2.2.1, vz σ.2.2.2.2.1])) := HO
  obtain ⟨⟨hBo, ho1, hIo⟩, ⟨hSI, hCI, hBB⟩, KD, KCs, KU, KN, KS, KI, KOu, KE⟩ := id WR
  have H : DnC g I h a st fo σ.1 := KD.1
  have dO := hO.1
  obtain ⟨A, Bf, pv, sv, KDA, hA, hB9, hV⟩ := id H
  obtain ⟨k1, k2, k3, k4, k5, k6, k7, k8⟩ := id KDA
  unfold opProblem
  by_cases c9 : 0 ≤ y ∧ y ≤ 3
  · rw [if_pos c9]
    cases hp9 : σ.1.2.2.2 with
    | none =>
      rw [withP_none hp9]
      refine ev_iload_n dX1_problem_0 rfl ?_
      refine ev_i2l dX1_problem_1 ?_
      refine ev_lconst0 dX1_problem_2 ?_
      refine ev_ldc2V (x := 3) dX1_problem_3 q2410 (by decide) ?_
      refine ev_callSE dX1_problem_6 cs_X1_108 ce_X1_inRange rfl rfl (k_inRange (d := 0) (a := y) (lo := 0) (hi := 3) (by omega)) (by omega) (Nat.le_of_ble_eq_true rfl) ?_
      refine ev_callSN dX1_problem_9 cs_X1_133 ce_X1_checkArgument rfl rfl (k_checkArgumentT (d := 0) (decide_eq_true c9)) (by omega) (Nat.le_of_ble_eq_true rfl) ?_
      refine ev_aload_n dX1_problem_12 rfl ?_
      refine ev_callV dX1_problem_13 cv_X1_209_X1 ce_X1_checkPiece HO rfl rfl rfl (k_checkPieceF H HO hBo hG hp9) (by omega) (by omega) (by omega) (Nat.le_of_ble_eq_true rfl) (fun v h2 q => ?_) (fun E q h2 r => ?_)
      · obtain ⟨q9, e9, -⟩ := q; cases e9
      · obtain ⟨q9, e9, e8, e7⟩ := r
        cases e9
        exact evx_out rfl (XQ.no (by decide) rfl ⟨I, own, (pid, a, st, fo), us, cl, ud, uv, uh, ib, iv, ic, os, ow, sdv, scv, lev, cs, e8, WR.self e7⟩ e7 (fun x hx => by rw [List.mem_singleton.mp hx]; exact WR.nB))
    | some l =>
      rw [withP_some hp9]
      rw [hp9] at hV
      obtain ⟨pp, sc, ss, cu, ru, rfl, rfl, hN, SA, SB, ⟨s1, s2, s3, s4, s5, s6, s7⟩, hSA, hSB⟩ := hV
      have pf := pf_dn dO hp9
      replace s1 := hSI _ _ s1
      replace s2 := hSI _ _ s2
      have hcn := (hN.sub hSI).cls
      have hkp := kP_72 (D := σ.1) pf.2.2.1
      have hPr := k_problems (d := 411) (c := 6 + 2 * (srK σ.1 (mean l) 0 ((mean l).1.1 + 1)).length) (k := 41 + kP (srK σ.1 (mean l) 0 ((mean l).1.1 + 1)).length) hG K0 hSI H hp9 rfl dO (by have := hL l hp9; omega) (Nat.le_refl _) (Nat.le_refl _) (Nat.le_refl _)
      by_cases c8 : 0 ≤ x ∧ x ≤ (((srK σ.1 (mean l) 0 ((mean l).1.1 + 1)).length : Nat) : Int) - 1
      · rw [if_pos (show 0 ≤ x ∧ x ≤ (((prL σ.1 (mean l) 0).length : Nat) : Int) - 1 from c8)]
        refine ev_iload_n dX1_problem_0 rfl ?_
        refine ev_i2l dX1_problem_1 ?_
        refine ev_lconst0 dX1_problem_2 ?_
        refine ev_ldc2V (x := 3) dX1_problem_3 q2410 (by decide) ?_
        refine ev_callSE dX1_problem_6 cs_X1_108 ce_X1_inRange rfl rfl (k_inRange (d := 0) (a := y) (lo := 0) (hi := 3) (by omega)) (by omega) (Nat.le_of_ble_eq_true rfl) ?_
        refine ev_callSN dX1_problem_9 cs_X1_133 ce_X1_checkArgument rfl rfl (k_checkArgumentT (d := 0) (decide_eq_true c9)) (by omega) (Nat.le_of_ble_eq_true rfl) ?_
        refine ev_aload_n dX1_problem_12 rfl ?_
        refine ev_callVN dX1_problem_13 cv_X1_209_X1 ce_X1_checkPiece HO rfl rfl rfl (k_checkPieceT (d := 0) H HO hBo hp9) (by omega) (Nat.le_of_ble_eq_true rfl) ?_
        refine ev_aload_n dX1_problem_16 rfl ?_
        refine ev_getf dX1_problem_17 gf_X1_37_X1 HO rfl ?_
        refine ev_callVR dX1_problem_20 cv_X1_302_X2 ce_X2_problems k1 rfl rfl rfl hPr (by omega) (by omega) (by omega) (Nat.le_of_ble_eq_true rfl) (fun v9 h1 P9 => ?_)
        obtain ⟨pl, X, rfl, ⟨v, rs, LA, hrl, hrc, -, -⟩, F1⟩ := P9
        have LA1 := LA.1
        rw [hrl] at LA1
        refine ev_astore_n dX1_problem_23 (by decide) rfl ?_
        dsimp only [List.set]
        refine ev_iload_n dX1_problem_24 rfl ?_
        refine ev_i2l dX1_problem_25 ?_
        refine ev_lconst0 dX1_problem_26 ?_
        refine ev_aload_n dX1_problem_27 rfl ?_
        refine ev_callVE dX1_problem_28 cv_X1_314_J26 ce_J26_size LA1 rfl rfl rfl (al_size LA1) (by omega) (Nat.le_of_ble_eq_true rfl) ?_
        refine ev_iconstZ dX1_problem_31 ?_
        refine ev_isubZ dX1_problem_32 ?_
        refine ev_i2l dX1_problem_33 ?_
        refine ev_callSE dX1_problem_34 cs_X1_108 ce_X1_inRange rfl rfl (k_inRange (d := 0) (a := x) (lo := 0) (hi := (((srK σ.1 (mean l) 0 ((mean l).1.1 + 1)).length : Nat) : Int) - 1) (by omega)) (by omega) (Nat.le_of_ble_eq_true rfl) ?_
        refine ev_callSN dX1_problem_37 cs_X1_203 ce_X1_checkElement rfl rfl (k_checkElementT (d := 0) (decide_eq_true c8)) (by omega) (Nat.le_of_ble_eq_true rfl) ?_
        refine ev_aload_n dX1_problem_40 rfl ?_
        refine ev_iload_n dX1_problem_41 rfl ?_
        obtain ⟨z, hz⟩ : ∃ z, (srK σ.1 (mean l) 0 ((mean l).1.1 + 1))[x.toNat]? = some z := ⟨_, List.getElem?_eq_getElem (by omega)⟩
        obtain ⟨ad, hx⟩ : ∃ ad, rs[x.toNat]? = some ad := ⟨_, List.getElem?_eq_getElem (by omega)⟩
        refine ev_callVE dX1_problem_42 cv_X1_315_J26 ce_J26_get LA1 rfl rfl rfl (alh_get LA (by omega) (by omega) hx) (by omega) (Nat.le_of_ble_eq_true rfl) ?_
        obtain ⟨A4, hx4, hA0, hA1, hA2, hA3⟩ := hrc x.toNat ad z hx hz
        refine ev_castA dX1_problem_45 q2402 hx4 rfl (by decide) ?_
        refine ev_iload_n dX1_problem_48 rfl ?_
        refine ev_ialdY dX1_problem_49 hx4 (by omega) ?_
        refine ev_ireturn dX1_problem_50 rfl ?_
        have e9 : A4 y.toNat = prV ((prL σ.1 (mean l) 0).getD x.toNat noPr) y := by
          unfold prL
          rw [List.getD_eq_getElem?_getD, hz]
          show A4 y.toNat = prV z y
          rcases (show y = 0 ∨ y = 1 ∨ y = 2 ∨ y = 3 by omega) with rfl | rfl | rfl | rfl
          · exact hA0
          · exact hA1
          · exact hA2
          · exact hA3
        rw [e9]
        exact W.newQ F1
      · rw [if_neg (show ¬ (0 ≤ x ∧ x ≤ (((prL σ.1 (mean l) 0).length : Nat) : Int) - 1) from c8)]
        refine ev_iload_n dX1_problem_0 rfl ?_
        refine ev_i2l dX1_problem_1 ?_
        refine ev_lconst0 dX1_problem_2 ?_
        refine ev_ldc2V (x := 3) dX1_problem_3 q2410 (by decide) ?_
        refine ev_callSE dX1_problem_6 cs_X1_108 ce_X1_inRange rfl rfl (k_inRange (d := 0) (a := y) (lo := 0) (hi := 3) (by omega)) (by omega) (Nat.le_of_ble_eq_true rfl) ?_
        refine ev_callSN dX1_problem_9 cs_X1_133 ce_X1_checkArgument rfl rfl (k_checkArgumentT (d := 0) (decide_eq_true c9)) (by omega) (Nat.le_of_ble_eq_true rfl) ?_
        refine ev_aload_n dX1_problem_12 rfl ?_
        refine ev_callVN dX1_problem_13 cv_X1_209_X1 ce_X1_checkPiece HO rfl rfl rfl (k_checkPieceT (d := 0) H HO hBo hp9) (by omega) (Nat.le_of_ble_eq_true rfl) ?_
        refine ev_aload_n dX1_problem_16 rfl ?_
        refine ev_getf dX1_problem_17 gf_X1_37_X1 HO rfl ?_
        refine ev_callVR dX1_problem_20 cv_X1_302_X2 ce_X2_problems k1 rfl rfl rfl hPr (by omega) (by omega) (by omega) (Nat.le_of_ble_eq_true rfl) (fun v9 h1 P9 => ?_)
        obtain ⟨pl, X, rfl, ⟨v, rs, LA, hrl, hrc, -, -⟩, F1⟩ := P9
        have LA1 := LA.1
        rw [hrl] at LA1
        refine ev_astore_n dX1_problem_23 (by decide) rfl ?_
        dsimp only [List.set]
        refine ev_iload_n dX1_problem_24 rfl ?_
        refine ev_i2l dX1_problem_25 ?_
        refine ev_lconst0 dX1_problem_26 ?_
        refine ev_aload_n dX1_problem_27 rfl ?_
        refine ev_callVE dX1_problem_28 cv_X1_314_J26 ce_J26_size LA1 rfl rfl rfl (al_size LA1) (by omega) (Nat.le_of_ble_eq_true rfl) ?_
        refine ev_iconstZ dX1_problem_31 ?_
        refine ev_isubZ dX1_problem_32 ?_
        refine ev_i2l dX1_problem_33 ?_
        refine ev_callSE dX1_problem_34 cs_X1_108 ce_X1_inRange rfl rfl (k_inRange (d := 0) (a := x) (lo := 0) (hi := (((srK σ.1 (mean l) 0 ((mean l).1.1 + 1)).length : Nat) : Int) - 1) (by omega)) (by omega) (Nat.le_of_ble_eq_true rfl) ?_
        refine ev_callS dX1_problem_37 cs_X1_203 ce_X1_checkElement rfl rfl (k_checkElementF hG (decide_eq_false c8)) (by omega) (by omega) (by omega) (Nat.le_of_ble_eq_true rfl) (fun v h2 q => ?_) (fun E q h2 r => ?_)
        · obtain ⟨q9, e9, -⟩ := q; cases e9
        · obtain ⟨q9, e9, rfl⟩ := r
          cases e9
          exact evx_out rfl (W.newX (by decide) rfl F1)
  · rw [if_neg c9]
    refine ev_iload_n dX1_problem_0 rfl ?_
    refine ev_i2l dX1_problem_1 ?_
    refine ev_lconst0 dX1_problem_2 ?_
    refine ev_ldc2V (x := 3) dX1_problem_3 q2410 (by decide) ?_
    refine ev_callSE dX1_problem_6 cs_X1_108 ce_X1_inRange rfl rfl (k_inRange (d := 0) (a := y) (lo := 0) (hi := 3) (by omega)) (by omega) (Nat.le_of_ble_eq_true rfl) ?_
    refine ev_callS dX1_problem_9 cs_X1_133 ce_X1_checkArgument rfl rfl (k_checkArgumentF hG (decide_eq_false c9)) (by omega) (by omega) (by omega) (Nat.le_of_ble_eq_true rfl) (fun v h2 q => ?_) (fun E q h2 r => ?_)
    · obtain ⟨q9, e9, -⟩ := q; cases e9
    · obtain ⟨q9, e9, rfl⟩ := r
      cases e9
      exact evx_out rfl (XQ.no (by decide) rfl W (Fr.refl _ []) nil_B)
end X3S

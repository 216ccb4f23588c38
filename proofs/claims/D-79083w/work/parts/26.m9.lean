/-! the reference: means (printed by gen) -/
section M9
variable {g : GB} {M : MI} {d c k : Nat} {Q : RS → HM → Prop} {pc : Nat} {ls : List (Option Value)} {st : List Value} {h : HM} {a b : Int} {ad : Nat → Nat} {o : Nat} {h0 : HM} {s : MSt}
def pcAt (A : Nat → Int) (l : List Nd) : Prop := A 43 = l.length ∧ l.length ≤ 1000 ∧ ∀ (i : Nat) (nd : Nd), l[i]? = some nd → ndAt A i nd
def pcOk (l : List Nd) : Prop := TR 81 l ∧ ∀ nd ∈ l, ndOk2 nd
/-- the meaning stands in the reference -/
def knAt (s' : MSt) (v : Me) : Prop := match v with
  | .error e => (s'.1 15 = e.1 ∧ s'.1 16 = e.2) ∧ (e.1 = 1 ∨ e.1 = 2)
  | .ok P => s'.1 15 = 0 ∧ ptAt s' P ∧ okPt P 0
def noPt : Pt := ((0, 0, 0, 0), fun _ _ => 0, fun _ => 0)
set_option maxRecDepth 100000 in
set_option maxHeartbeats 4000000 in
theorem k_means1 (hd : 1 ≤ d) (hM : MX g ad o h0 s h) (hk : s.1 14 ≠ 0 ∨ s.2 1 42 = 0) (hb : inR (s.1 14)) : Kc g mX3_means d 0 0 [.ref o] h (mR g ad o h0 none s) := by
  refine Kc.of (ls := [some (.ref o), none]) (by decide +kernel) (Nat.le_of_ble_eq_true rfl) rfl ?_
  by_cases hk14 : s.1 14 = 0
  · refine ev_aload_n dX3_means_0 rfl ?_
    refine mx_getI hM dX3_means_1 gf_X3_128_X3 rfl ?_
    try simp only [uS_1, uA_1, uF_1, uS_2, uA_2a, uF_2a, Nat.reduceEqDiff, reduceIte, Int.reduceToNat, Int.toNat_natCast]
    refine ev_if_neZ (tgt := 17) dX3_means_4 (by decide) (by omega) (fun c => absurd hk14 c) (fun _ => ?_)
    refine ev_aload_n dX3_means_7 rfl ?_
    refine mx_getA hM dX3_means_8 gf_X3_7_X3 rfl ?_
    refine ev_bipushZ dX3_means_11 rfl ?_
    refine mx_iald hM rfl dX3_means_13 (by omega) ?_
    try simp only [uS_1, uA_1, uF_1, uS_2, uA_2a, uF_2a, Nat.reduceEqDiff, reduceIte, Int.reduceToNat, Int.toNat_natCast]
    refine ev_if_neZ (tgt := 18) dX3_means_14 (by decide) (by omega) (fun c => absurd (by omega) c) (fun _ => ?_)
    refine ev_return dX3_means_17 rfl ?_
    exact ⟨rfl, hM⟩
  · refine ev_aload_n dX3_means_0 rfl ?_
    refine mx_getI hM dX3_means_1 gf_X3_128_X3 rfl ?_
    try simp only [uS_1, uA_1, uF_1, uS_2, uA_2a, uF_2a, Nat.reduceEqDiff, reduceIte, Int.reduceToNat, Int.toNat_natCast]
    refine ev_if_neZ (tgt := 17) dX3_means_4 (by decide) (by omega) (fun _ => ?_) (fun c => absurd c hk14)
    refine ev_return dX3_means_17 rfl ?_
    exact ⟨rfl, hM⟩
set_option maxRecDepth 100000 in
set_option maxHeartbeats 4000000 in
theorem k_means2 {l : List Nd} (hd : 7 ≤ d) (hM : MX g ad o h0 s h) (hk : s.1 14 = 0) (hh : s.2 1 42 = 1) (hp : pcAt (s.2 1) l) (hok : pcOk l) : Kc g mX3_means d 0 0 [.ref o] h (mP g ad o h0 (fun v s' => v = none ∧ fr s s' [14, 15, 16, 17, 18, 19, 20, 23] [21, 22, 24, 25, 26, 27, 28, 29, 30, 31, 32, 33, 34] ∧ s'.1 14 = 1 ∧ knAt s' (sem l))) := by
  refine Kc.of (ls := [some (.ref o), none]) (by decide +kernel) (Nat.le_of_ble_eq_true rfl) rfl ?_
  obtain ⟨hl43, hlen, hnds⟩ := hp
  obtain ⟨ht, hnok⟩ := hok
  have hlpos : 0 < l.length := List.length_pos_iff.mpr ht.ne
  have XE : ∀ (i : Nat) (e : Er) (s1 : MSt) (h : HM), MX g ad o h0 s1 h → fr s s1 [14, 15, 16, 17, 18, 19, 20, 23] [21, 22, 24, 25, 26, 27, 28, 29, 30, 31, 32, 33, 34] → i ≤ l.length → sem l = .error e → ((s1.1 15 = e.1 ∧ s1.1 16 = e.2) ∧ (e.1 = 1 ∨ e.1 = 2)) → Ev g mX3_means d 0 0 (mP g ad o h0 (fun v s' => v = none ∧ fr s s' [14, 15, 16, 17, 18, 19, 20, 23] [21, 22, 24, 25, 26, 27, 28, 29, 30, 31, 32, 33, 34] ∧ s'.1 14 = 1 ∧ knAt s' (sem l))) 35 [some (.ref o), some (vz (i : Int))] [] h := by
    intro i e s1 h hM hf hi hs he
    refine ev_iload_n dX3_means_35 rfl ?_
    refine ev_aload_n dX3_means_36 rfl ?_
    refine mx_getA hM dX3_means_37 gf_X3_7_X3 rfl ?_
    refine ev_bipushZ dX3_means_40 rfl ?_
    refine mx_iald hM rfl dX3_means_42 (by omega) ?_
    try simp only [uS_1, uA_1, uF_1, uS_2, uA_2a, uF_2a, Nat.reduceEqDiff, reduceIte, Int.reduceToNat, Int.toNat_natCast]
    rw [hf.2 1 (by decide), hl43]
    refine ev_icmp_geZ (tgt := 85) dX3_means_43 (by decide) (by omega) (by omega) (fun c43 => ?_) (fun c43 => ?_)
    · refine ev_aload_n dX3_means_85 rfl ?_
      refine ev_iconstZ dX3_means_86 ?_
      refine mx_putB hM dX3_means_87 gf_X3_128_X3 rfl (by omega) (fun h hM => ?_)
      refine ev_return dX3_means_90 rfl ?_
      refine ⟨none, _, rfl, ⟨rfl, fr.S hf rfl, rfl, ?_⟩, hM⟩
      rw [hs]
      exact he
    · refine ev_aload_n dX3_means_46 rfl ?_
      refine mx_getI hM dX3_means_47 gf_X3_153_X3 rfl ?_
      try simp only [uS_1, uA_1, uF_1, uS_2, uA_2a, uF_2a, Nat.reduceEqDiff, reduceIte, Int.reduceToNat, Int.toNat_natCast]
      refine ev_if_neZ (tgt := 85) dX3_means_50 (by decide) (by have := he.1.1; omega) (fun _ => ?_) (fun c => absurd c (by have := he.1.1; omega))
      refine ev_aload_n dX3_means_85 rfl ?_
      refine ev_iconstZ dX3_means_86 ?_
      refine mx_putB hM dX3_means_87 gf_X3_128_X3 rfl (by omega) (fun h hM => ?_)
      refine ev_return dX3_means_90 rfl ?_
      refine ⟨none, _, rfl, ⟨rfl, fr.S hf rfl, rfl, ?_⟩, hM⟩
      rw [hs]
      exact he
  have key : ∀ (r : List Nd) (i : Nat) (σ : List Op) (P : Pt) (s1 : MSt) (h : HM), MX g ad o h0 s1 h → fr s s1 [14, 15, 16, 17, 18, 19, 20, 23] [21, 22, 24, 25, 26, 27, 28, 29, 30, 31, 32, 33, 34] → i + r.length = l.length → (∀ (j : Nat) (nd : Nd), r[j]? = some nd → ndAt (s.2 1) (i + j) nd) → s1.1 15 = 0 → s1.1 23 = σ.length → stkAt s1 σ → okS σ → σ.length ≤ 80 → (i ≠ 0 → σ = [] → ptAt s1 P ∧ okPt P 0) → runOk r σ P → runM r σ P = runM l [] noPt → Ev g mX3_means d 0 0 (mP g ad o h0 (fun v s' => v = none ∧ fr s s' [14, 15, 16, 17, 18, 19, 20, 23] [21, 22, 24, 25, 26, 27, 28, 29, 30, 31, 32, 33, 34] ∧ s'.1 14 = 1 ∧ knAt s' (sem l))) 35 [some (.ref o), some (vz (i : Int))] [] h := by
    intro r
    induction r with
    | nil =>
      intro i σ P s1 h hM hf hi hA hw h23 hst hS hl hP hrun hE
      refine ev_iload_n dX3_means_35 rfl ?_
      refine ev_aload_n dX3_means_36 rfl ?_
      refine mx_getA hM dX3_means_37 gf_X3_7_X3 rfl ?_
      refine ev_bipushZ dX3_means_40 rfl ?_
      refine mx_iald hM rfl dX3_means_42 (by omega) ?_
      try simp only [uS_1, uA_1, uF_1, uS_2, uA_2a, uF_2a, Nat.reduceEqDiff, reduceIte, Int.reduceToNat, Int.toNat_natCast]
      rw [hf.2 1 (by decide), hl43]
      refine ev_icmp_geZ (tgt := 85) dX3_means_43 (by decide) (by omega) (by omega) (fun _ => ?_) (fun c => absurd (by simp only [List.length_nil] at hi; omega) c)
      refine ev_aload_n dX3_means_85 rfl ?_
      refine ev_iconstZ dX3_means_86 ?_
      refine mx_putB hM dX3_means_87 gf_X3_128_X3 rfl (by omega) (fun h hM => ?_)
      refine ev_return dX3_means_90 rfl ?_
      refine ⟨none, _, rfl, ⟨rfl, fr.S hf rfl, rfl, ?_⟩, hM⟩
      rw [run_piece ht noPt] at hE
      cases hs : sem l with
      | error e => rw [hs] at hE; cases hE
      | ok Q =>
        rw [hs] at hE
        cases hE
        obtain ⟨q1, q2⟩ := hP (by simp only [List.length_nil] at hi; omega) rfl
        exact ⟨hw, q1, q2⟩
    | cons nd r ih =>
      intro i σ P s1 h hM hf hi hA hw h23 hst hS hl hP hrun hE
      have hnd := hrun.1
      have hi2 : i + 1 ≤ l.length := by simp only [List.length_cons] at hi; omega
      refine ev_iload_n dX3_means_35 rfl ?_
      refine ev_aload_n dX3_means_36 rfl ?_
      refine mx_getA hM dX3_means_37 gf_X3_7_X3 rfl ?_
      refine ev_bipushZ dX3_means_40 rfl ?_
      refine mx_iald hM rfl dX3_means_42 (by omega) ?_
      try simp only [uS_1, uA_1, uF_1, uS_2, uA_2a, uF_2a, Nat.reduceEqDiff, reduceIte, Int.reduceToNat, Int.toNat_natCast]
      rw [hf.2 1 (by decide), hl43]
      refine ev_icmp_geZ (tgt := 85) dX3_means_43 (by decide) (by simp only [List.length_cons] at hi; omega) (by omega) (fun c => absurd c (by simp only [List.length_cons] at hi; omega)) (fun _ => ?_)
      refine ev_aload_n dX3_means_46 rfl ?_
      refine mx_getI hM dX3_means_47 gf_X3_153_X3 rfl ?_
      try simp only [uS_1, uA_1, uF_1, uS_2, uA_2a, uF_2a, Nat.reduceEqDiff, reduceIte, Int.reduceToNat, Int.toNat_natCast]
      refine ev_if_neZ (tgt := 85) dX3_means_50 (by decide) (by omega) (fun c => absurd hw c) (fun _ => ?_)
      refine ev_aload_n dX3_means_53 rfl ?_
      refine ev_iload_n dX3_means_54 rfl ?_
      refine mx_call dX3_means_55 cv_X3_162_X3 ce_X3_kind hM rfl rfl (k_kindN (n := i) (x := (nd.1 : Int)) (d := d - 1) (by omega) hM (by omega) (by rw [hf.2 1 (by decide)]; exact (hA 0 nd rfl).1)) (by omega) (Nat.le_of_ble_eq_true rfl) (fun h hM => ?_)
      refine ev_iconstZ dX3_means_58 ?_
      refine ev_icmp_gtZ (tgt := 74) dX3_means_59 (by decide) (by have := hnd.1.1; omega) (by omega) (fun c59 => ?_) (fun c59 => ?_)
      · have hk2 : ¬ nd.1 ≤ 2 := by omega
        have hrn := hrun.2
        rw [if_neg hk2] at hrn
        refine ev_aload_n dX3_means_74 rfl ?_
        refine ev_iload_n dX3_means_75 rfl ?_
        refine mx_callP dX3_means_76 cv_X3_190_X3 ce_X3_opens hM rfl rfl (k_opens (n := i) (o1 := σ.length) (nd := nd) (d := d - 1) hM (by omega) (by rw [hf.2 1 (by decide)]; exact hA 0 nd rfl) (by omega) h23 (by omega)) (by omega) (Nat.le_of_ble_eq_true rfl) (fun v s' h hP hM => ?_)
        obtain ⟨rfl, f1, g23, hO1, hof⟩ := hP
        have hf2 : fr s s' [14, 15, 16, 17, 18, 19, 20, 23] [21, 22, 24, 25, 26, 27, 28, 29, 30, 31, 32, 33, 34] := hf.trans (f1.more rfl rfl)
        rw [runM, if_neg hk2] at hE
        have hrun2 := hrun.2
        rw [if_neg hk2] at hrun2
        refine ev_iincZ dX3_means_79 rfl (by decide) rfl ?_
        dsimp only [List.set]
        refine ev_goto (tgt := 35) dX3_means_82 (by decide) ?_
        refine ih (i + 1) (openO nd :: σ) P _ h hM hf2 (by simp only [List.length_cons] at hi; omega) (fun j nd' hj => ?_) ((f1.1 15 (by decide)).trans hw) (by rw [g23]; simp) ⟨hO1, stkAt.opFr hof hst (Nat.le_refl _)⟩ ⟨okOp_open hnd hk2 (by omega), hS⟩ (by simp only [List.length_cons]; omega) (fun _ e => by cases e) hrun2.2 hE
        rw [show i + 1 + j = i + (j + 1) by omega]; exact hA (j + 1) nd' hj
      · have hk2 : nd.1 ≤ 2 := by omega
        refine ev_aload_n dX3_means_62 rfl ?_
        refine ev_iload_n dX3_means_63 rfl ?_
        refine mx_callP dX3_means_64 cv_X3_183_X3 ce_X3_leaf hM rfl rfl (k_leaf (n := i) (nd := nd) (d := d - 1) (by omega) hM (by omega) (by rw [hf.2 1 (by decide)]; exact hA 0 nd rfl) hnd.1 hk2 hw) (by omega) (Nat.le_of_ble_eq_true rfl) (fun v s' h hP hM => ?_)
        obtain ⟨rfl, f1, hme⟩ := hP
        have hf2 : fr s s' [14, 15, 16, 17, 18, 19, 20, 23] [21, 22, 24, 25, 26, 27, 28, 29, 30, 31, 32, 33, 34] := hf.trans (f1.more rfl rfl)
        have h23' : s'.1 23 = σ.length := (f1.1 23 (by decide)).trans h23
        have hst' : stkAt s' σ := hst.fr f1 rfl
        rw [runM, if_pos hk2] at hE
        have hrun2 := hrun.2
        rw [if_pos hk2] at hrun2
        cases hv : leafE nd with
        | error e =>
          have he := leafE_er hv
          rw [hv] at hme hE
          refine ev_aload_n dX3_means_67 rfl ?_
          refine mx_callv dX3_means_68 cv_X3_187_X3 ce_X3_ends hM rfl rfl (k_ends0 (d := d - 1) (by omega) hM (by have := hme.1; omega) ⟨by have := hme.1; omega, by omega⟩) (by omega) (Nat.le_of_ble_eq_true rfl) (fun h hM => ?_)
          refine ev_goto (tgt := 79) dX3_means_71 (by decide) ?_
          refine ev_iincZ dX3_means_79 rfl (by decide) rfl ?_
          dsimp only [List.set]
          refine ev_goto (tgt := 35) dX3_means_82 (by decide) ?_
          refine XE (i + 1) e _ h hM hf2 (by simp only [List.length_cons] at hi; omega) ?_ ⟨hme, he⟩
          rw [endM_error] at hE
          rw [run_piece ht noPt] at hE
          cases hs : sem l with
          | error e' => rw [hs] at hE; cases hE; rfl
          | ok Q => rw [hs] at hE; cases hE
        | ok P1 =>
          rw [hv] at hme hE hrun2
          refine ev_aload_n dX3_means_67 rfl ?_
          refine mx_callP dX3_means_68 cv_X3_187_X3 ce_X3_ends hM rfl rfl (k_ends (σ := σ) (P := P1) (d := d - 1) (by omega) hM h23' hst' hS hl hme.2 (okPt_leaf hl hnd.1 hk2 hv) hme.1) (by omega) (Nat.le_of_ble_eq_true rfl) (fun v s' h hP hM => ?_)
          obtain ⟨rfl, f2, hen⟩ := hP
          have hf3 := hf2.trans (f2.more (K' := [14, 15, 16, 17, 18, 19, 20, 23]) (J' := [21, 22, 24, 25, 26, 27, 28, 29, 30, 31, 32, 33, 34]) rfl rfl)
          refine ev_goto (tgt := 79) dX3_means_71 (by decide) ?_
          refine ev_iincZ dX3_means_79 rfl (by decide) rfl ?_
          dsimp only [List.set]
          refine ev_goto (tgt := 35) dX3_means_82 (by decide) ?_
          cases hv2 : endM σ (.ok P1) with
          | error e =>
            rw [hv2] at hen hE
            refine XE (i + 1) e _ h hM hf3 (by simp only [List.length_cons] at hi; omega) ?_ hen
            rw [run_piece ht noPt] at hE
            cases hs : sem l with
            | error e' => rw [hs] at hE; cases hE; rfl
            | ok Q => rw [hs] at hE; cases hE
          | ok q =>
            rw [hv2] at hen hE hrun2
            obtain ⟨k1, k2, k3⟩ := okE σ P1 q hS (okPt_leaf hl hnd.1 hk2 hv) hv2
            refine ih (i + 1) q.1 q.2 _ h hM hf3 (by simp only [List.length_cons] at hi; omega) (fun j nd' hj => ?_) hen.1 hen.2.1 hen.2.2.1 k1 (by omega) (fun _ e => ⟨hen.2.2.2 e, k3 e⟩) hrun2 hE
            rw [show i + 1 + j = i + (j + 1) by omega]; exact hA (j + 1) nd' hj
  refine ev_aload_n dX3_means_0 rfl ?_
  refine mx_getI hM dX3_means_1 gf_X3_128_X3 rfl ?_
  try simp only [uS_1, uA_1, uF_1, uS_2, uA_2a, uF_2a, Nat.reduceEqDiff, reduceIte, Int.reduceToNat, Int.toNat_natCast]
  refine ev_if_neZ (tgt := 17) dX3_means_4 (by decide) (by omega) (fun c => absurd hk c) (fun _ => ?_)
  refine ev_aload_n dX3_means_7 rfl ?_
  refine mx_getA hM dX3_means_8 gf_X3_7_X3 rfl ?_
  refine ev_bipushZ dX3_means_11 rfl ?_
  refine mx_iald hM rfl dX3_means_13 (by omega) ?_
  try simp only [uS_1, uA_1, uF_1, uS_2, uA_2a, uF_2a, Nat.reduceEqDiff, reduceIte, Int.reduceToNat, Int.toNat_natCast]
  refine ev_if_neZ (tgt := 18) dX3_means_14 (by decide) (by omega) (fun _ => ?_) (fun c => absurd c (by omega))
  refine ev_aload_n dX3_means_18 rfl ?_
  refine ev_iconstZ dX3_means_19 ?_
  refine mx_putI hM dX3_means_20 gf_X3_174_X3 rfl (fun h hM => ?_)
  refine ev_aload_n dX3_means_23 rfl ?_
  refine ev_iconstZ dX3_means_24 ?_
  refine mx_putI hM dX3_means_25 gf_X3_153_X3 rfl (fun h hM => ?_)
  refine ev_aload_n dX3_means_28 rfl ?_
  refine ev_iconstZ dX3_means_29 ?_
  refine mx_putI hM dX3_means_30 gf_X3_156_X3 rfl (fun h hM => ?_)
  refine ev_iconstZ dX3_means_33 ?_
  refine ev_istore_n dX3_means_34 (by decide) rfl ?_
  dsimp only [List.set]
  exact Ev.forget (key l 0 [] noPt _ h hM (fr.S (fr.S (fr.S (fr.refl _ _ _) rfl) rfl) rfl) (by omega) (fun j nd hj => by rw [Nat.zero_add]; exact hnds j nd hj) rfl rfl trivial trivial (by decide) (fun q => absurd rfl q) (runOk_piece ht hnok (by omega) noPt) rfl) (by repeat' first | exact rfl | exact trivial | exact vz_eq (by omega) | refine And.intro ?_ ?_)
end M9

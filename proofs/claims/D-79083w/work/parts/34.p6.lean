/-! the reference: what a piece tells (printed by gen) -/
section P6
variable {g : GB} {M : MI} {d c k : Nat} {Q : RS → HM → Prop} {pc : Nat} {ls : List (Option Value)} {st : List Value} {h : HM} {a b : Int} {ad : Nat → Nat} {o : Nat} {h0 : HM} {s : MSt}
def withP (σ : Sp) (code : Int) (f : List Nd → Rs) : Rs := match σ.1.2.2.2 with
  | none => (code, 0, wReason σ 3)
  | some l => f l
theorem withP_none {σ : Sp} {code : Int} {f : List Nd → Rs} (h : σ.1.2.2.2 = none) : withP σ code f = (code, 0, wReason σ 3) := by unfold withP; rw [h]
theorem withP_some {σ : Sp} {code : Int} {f : List Nd → Rs} {l : List Nd} (h : σ.1.2.2.2 = some l) : withP σ code f = f l := by unfold withP; rw [h]
def leavesN (l : List Nd) : Nat → Nat
  | 0 => 0
  | i + 1 => leavesN l i + (if (l.getD i noNd).1 ≤ 2 then 1 else 0)
def treeV (l : List Nd) (w : Int) : Nat := if w = 0 then l.length else if w = 1 then (mean l).1.2.2.1 else if w = 2 then leavesN l l.length else if w = 3 then (mean l).1.1 else (mean l).1.2.1
def opTree (σ : Sp) (w : Int) : Rs := if 0 ≤ w ∧ w ≤ 4 then withP σ 2 (fun l => (0, (treeV l w : Nat), σ)) else (1, 0, σ)
def mvS (P : Pt) (e : Nat) (row : Bool) : Nat → Int
  | 0 => 0
  | k + 1 => mvS P e row k + (if row then alo (P.2.1 e k : Nat) else acr (P.2.1 e k : Nat))
def posS (D : Dn) (P : Pt) (e k : Nat) (row : Bool) : Int := (if row then D.2.1 e / D.1.1 else D.2.1 e % D.1.1) + mvS P e row k
def opStep (σ : Sp) (x k : Int) : Rs := if 0 ≤ x ∧ x ≤ 7 then withP σ 2 (fun l => if 0 ≤ k ∧ k ≤ (mean l).1.1 - 1 then (0, sgn ((mean l).2.1 x.toNat k.toNat : Nat), σ) else (3, 0, σ)) else (1, 0, σ)
def opPos (σ : Sp) (x k : Int) (row : Bool) : Rs := if 0 ≤ x ∧ x ≤ 7 then withP σ 2 (fun l => if (0 ≤ k ∧ k ≤ (mean l).1.1) ∧ σ.1.2.1 x.toNat ≠ -1 then (0, posS σ.1 (mean l) x.toNat k.toNat row, σ) else (3, 0, σ)) else (1, 0, σ)
def opDisp (σ : Sp) (x : Int) (row : Bool) : Rs := if 0 ≤ x ∧ x ≤ 7 then withP σ 2 (fun l => (0, mvS (mean l) x.toNat row (mean l).1.1, σ)) else (1, 0, σ)
theorem mvS_le (P : Pt) (e : Nat) (row : Bool) : ∀ k : Nat, -(k : Int) ≤ mvS P e row k ∧ mvS P e row k ≤ k := by
  intro k
  induction k with
  | zero => exact ⟨by simp [mvS], by simp [mvS]⟩
  | succ k ih =>
    have h1 : ∀ x : Int, -1 ≤ alo x ∧ alo x ≤ 1 := fun x => by unfold alo; split <;> (try split) <;> omega
    have h2 : ∀ x : Int, -1 ≤ acr x ∧ acr x ≤ 1 := fun x => by unfold acr; split <;> (try split) <;> omega
    show _ ≤ mvS P e row k + _ ∧ mvS P e row k + _ ≤ _
    have a := h1 (P.2.1 e k : Nat)
    have b := h2 (P.2.1 e k : Nat)
    split <;> omega
theorem knAt.stp {P : Pt} (h : knAt s (.ok P)) {e q : Nat} (he : e < 8) (hq : q < 100) : s.2 21 (100 * e + q) = (P.2.1 e q : Nat) ∧ P.2.1 e q ≤ 4 := ⟨h.ok.2.1.2.2.2.2.1 e q he hq, h.ok.2.2.2.2.2.2 e q⟩
theorem knAt.cu {P : Pt} (h : knAt s (.ok P)) {q : Nat} (hq : q < 100) : s.2 22 q = (P.2.2 q : Nat) := h.ok.2.1.2.2.2.2.2 q hq
theorem nd_get {A : Nat → Int} {l : List Nd} (hp : pcAt A l) (hk7 : ∀ nd ∈ l, nd.1 ≤ 7) {i : Nat} (hi : i < l.length) : ndAt A i (l.getD i noNd) ∧ (l.getD i noNd).1 ≤ 7 := by
  have e : l[i]? = some (l.getD i noNd) := by rw [List.getD_eq_getElem?_getD, List.getElem?_eq_getElem hi]; rfl
  exact ⟨hp.2.2 i _ e, hk7 _ (List.mem_of_getElem? e)⟩
set_option maxRecDepth 100000 in
set_option maxHeartbeats 4000000 in
theorem k_leaves {l : List Nd} (hM : MX g ad o h0 s h) (hp : pcAt (s.2 1) l) (hk7 : ∀ nd ∈ l, nd.1 ≤ 7) (hd : 3 ≤ d) : Kc g mX3_leaves d 0 0 [.ref o] h (mR g ad o h0 (some (vz (leavesN l l.length : Nat))) s) := by
  refine Kc.of (ls := [some (.ref o), none, none]) (by decide +kernel) (Nat.le_of_ble_eq_true rfl) rfl ?_
  have hl43 := hp.1
  have hlen := hp.2.1
  refine ev_iconstZ dX3_leaves_0 ?_
  refine ev_istore_n dX3_leaves_1 (by decide) rfl ?_
  dsimp only [List.set]
  refine ev_iconstZ dX3_leaves_2 ?_
  refine ev_istore_n dX3_leaves_3 (by decide) rfl ?_
  dsimp only [List.set]
  refine ev_for l.length (fun i h => MX g ad o h0 s h) (fun i => [some (.ref o), some (vz ((leavesN l i : Nat) : Int)), some (vz (i : Int))]) 0 (by omega) hM (by repeat' first | exact rfl | exact trivial | exact vz_eq (by omega) | refine And.intro ?_ ?_) (fun i h hi1 hi2 hX hN => ?_) (fun h hX => ?_)
  · clear hM
    have hM : MX g ad o h0 s h := hX
    refine ev_iload_n dX3_leaves_4 rfl ?_
    refine ev_aload_n dX3_leaves_5 rfl ?_
    refine mx_getA hM dX3_leaves_6 gf_X3_7_X3 rfl ?_
    refine ev_bipushZ dX3_leaves_9 rfl ?_
    refine mx_iald hM rfl dX3_leaves_11 (by omega) ?_
    try simp only [uS_1, uA_1, uF_1, uS_2, uA_2a, uF_2a, Nat.reduceEqDiff, reduceIte, Int.reduceToNat, Int.toNat_natCast]
    rw [hl43]
    refine ev_icmp_geZ (tgt := 38) dX3_leaves_12 (by decide) (by omega) (by omega) (fun c => absurd c (by omega)) (fun _ => ?_)
    refine ev_iload_n dX3_leaves_15 rfl ?_
    refine ev_aload_n dX3_leaves_16 rfl ?_
    refine ev_iload_n dX3_leaves_17 rfl ?_
    refine mx_call dX3_leaves_18 cv_X3_162_X3 ce_X3_kind hM rfl rfl (k_kindN (n := i) (x := ((l.getD i noNd).1 : Int)) (d := d - 1) (by omega) hM (by omega) (nd_get hp hk7 hi2).1.1) (by omega) (Nat.le_of_ble_eq_true rfl) (fun h hM => ?_)
    refine ev_iconstZ dX3_leaves_21 ?_
    refine ev_icmp_gtZ (tgt := 29) dX3_leaves_22 (by decide) (by have := (nd_get hp hk7 hi2).2; omega) (by omega) (fun c22 => ?_) (fun c22 => ?_)
    · refine ev_iconstZ dX3_leaves_29 ?_
      refine ev_iaddZ dX3_leaves_30 ?_
      refine ev_istore_n dX3_leaves_31 (by decide) rfl ?_
      dsimp only [List.set]
      refine ev_iincZ dX3_leaves_32 rfl (by decide) rfl ?_
      dsimp only [List.set]
      refine ev_goto (tgt := 4) dX3_leaves_35 (by decide) ?_
      have e : leavesN l (i + 1) = leavesN l i + (if (l.getD i noNd).1 ≤ 2 then 1 else 0) := rfl
      first
        | exact hN _ _ (by rw [e, if_pos (by omega)]; exact ⟨rfl, by simp, rfl, trivial⟩) hM
        | exact hN _ _ (by rw [e, if_neg (by omega)]; exact ⟨rfl, by simp, rfl, trivial⟩) hM
    · refine ev_iconstZ dX3_leaves_25 ?_
      refine ev_goto (tgt := 30) dX3_leaves_26 (by decide) ?_
      refine ev_iaddZ dX3_leaves_30 ?_
      refine ev_istore_n dX3_leaves_31 (by decide) rfl ?_
      dsimp only [List.set]
      refine ev_iincZ dX3_leaves_32 rfl (by decide) rfl ?_
      dsimp only [List.set]
      refine ev_goto (tgt := 4) dX3_leaves_35 (by decide) ?_
      have e : leavesN l (i + 1) = leavesN l i + (if (l.getD i noNd).1 ≤ 2 then 1 else 0) := rfl
      first
        | exact hN _ _ (by rw [e, if_pos (by omega)]; exact ⟨rfl, by simp, rfl, trivial⟩) hM
        | exact hN _ _ (by rw [e, if_neg (by omega)]; exact ⟨rfl, by simp, rfl, trivial⟩) hM
  · clear hM
    have hM : MX g ad o h0 s h := hX
    refine ev_iload_n dX3_leaves_4 rfl ?_
    refine ev_aload_n dX3_leaves_5 rfl ?_
    refine mx_getA hM dX3_leaves_6 gf_X3_7_X3 rfl ?_
    refine ev_bipushZ dX3_leaves_9 rfl ?_
    refine mx_iald hM rfl dX3_leaves_11 (by omega) ?_
    try simp only [uS_1, uA_1, uF_1, uS_2, uA_2a, uF_2a, Nat.reduceEqDiff, reduceIte, Int.reduceToNat, Int.toNat_natCast]
    rw [hl43]
    refine ev_icmp_geZ (tgt := 38) dX3_leaves_12 (by decide) (by omega) (by omega) (fun _ => ?_) (fun c => absurd (by omega) c)
    refine ev_iload_n dX3_leaves_38 rfl ?_
    refine ev_ireturn dX3_leaves_39 rfl ?_
    exact ⟨rfl, hM⟩
set_option maxRecDepth 100000 in
set_option maxHeartbeats 4000000 in
theorem k_moved {P : Pt} {e n : Nat} {row : Bool} (hM : MX g ad o h0 s h) (hk : knAt s (.ok P)) (he : e < 8) (hn : n ≤ 100) (hd : 2 ≤ d) : Kc g mX3_moved d 0 0 [.ref o, vz (e : Int), vz (n : Int), vz (bI row)] h (mR g ad o h0 (some (vz (mvS P e row n))) s) := by
  refine Kc.of (ls := [some (.ref o), some (vz (e : Int)), some (vz (n : Int)), some (vz (bI row)), none, none]) (by decide +kernel) (Nat.le_of_ble_eq_true rfl) rfl ?_
  refine ev_iconstZ dX3_moved_0 ?_
  refine ev_istore dX3_moved_1 (by decide) rfl ?_
  dsimp only [List.set]
  refine ev_iconstZ dX3_moved_3 ?_
  refine ev_istore dX3_moved_4 (by decide) rfl ?_
  dsimp only [List.set]
  refine ev_for n (fun i h => MX g ad o h0 s h) (fun i => [some (.ref o), some (vz (e : Int)), some (vz (n : Int)), some (vz (bI row)), some (vz (mvS P e row i)), some (vz (i : Int))]) 0 (by omega) hM (by repeat' first | exact rfl | exact trivial | exact vz_eq (by omega) | refine And.intro ?_ ?_) (fun i h hi1 hi2 hX hN => ?_) (fun h hX => ?_)
  · clear hM
    have hM : MX g ad o h0 s h := hX
    refine ev_iload dX3_moved_6 rfl ?_
    refine ev_iload_n dX3_moved_8 rfl ?_
    refine ev_icmp_geZ (tgt := 60) dX3_moved_9 (by decide) (by omega) (by omega) (fun c => absurd c (by omega)) (fun _ => ?_)
    refine ev_iload dX3_moved_12 rfl ?_
    refine ev_iload_n dX3_moved_14 rfl ?_
    refine ev_if_eqB (tgt := 36) dX3_moved_15 (by decide) (fun c15 => ?_) (fun c15 => ?_)
    · refine ev_aload_n dX3_moved_36 rfl ?_
      refine mx_getA hM dX3_moved_37 gf_X3_36_X3 rfl ?_
      refine ev_bipushZ dX3_moved_40 rfl ?_
      refine ev_iload_n dX3_moved_42 rfl ?_
      refine ev_imulZ dX3_moved_43 ?_
      refine ev_iload dX3_moved_44 rfl ?_
      refine ev_iaddZ dX3_moved_46 ?_
      refine ev_to (b := ((100 * e + i : Nat) : Int)) (by omega) ?_
      refine mx_iald hM rfl dX3_moved_47 (by omega) ?_
      try simp only [uS_1, uA_1, uF_1, uS_2, uA_2a, uF_2a, Nat.reduceEqDiff, reduceIte, Int.reduceToNat, Int.toNat_natCast]
      rw [(hk.stp he (show i < 100 by omega)).1]
      refine ev_callSE dX3_moved_48 cs_X3_329 ce_X3_across rfl rfl (k_across (d := d - 1) (by omega) (by have := (hk.stp he (show i < 100 by omega)).2; omega)) (by omega) (Nat.le_of_ble_eq_true rfl) ?_
      refine ev_iaddZ dX3_moved_51 ?_
      refine ev_istore dX3_moved_52 (by decide) rfl ?_
      dsimp only [List.set]
      refine ev_iincZ dX3_moved_54 rfl (by decide) rfl ?_
      dsimp only [List.set]
      refine ev_goto (tgt := 6) dX3_moved_57 (by decide) ?_
      subst c15
      exact hN _ _ ⟨rfl, rfl, rfl, rfl, rfl, rfl, trivial⟩ hM
    · refine ev_aload_n dX3_moved_18 rfl ?_
      refine mx_getA hM dX3_moved_19 gf_X3_36_X3 rfl ?_
      refine ev_bipushZ dX3_moved_22 rfl ?_
      refine ev_iload_n dX3_moved_24 rfl ?_
      refine ev_imulZ dX3_moved_25 ?_
      refine ev_iload dX3_moved_26 rfl ?_
      refine ev_iaddZ dX3_moved_28 ?_
      refine ev_to (b := ((100 * e + i : Nat) : Int)) (by omega) ?_
      refine mx_iald hM rfl dX3_moved_29 (by omega) ?_
      try simp only [uS_1, uA_1, uF_1, uS_2, uA_2a, uF_2a, Nat.reduceEqDiff, reduceIte, Int.reduceToNat, Int.toNat_natCast]
      rw [(hk.stp he (show i < 100 by omega)).1]
      refine ev_callSE dX3_moved_30 cs_X3_326 ce_X3_along rfl rfl (k_along (d := d - 1) (by omega) (by have := (hk.stp he (show i < 100 by omega)).2; omega)) (by omega) (Nat.le_of_ble_eq_true rfl) ?_
      refine ev_goto (tgt := 51) dX3_moved_33 (by decide) ?_
      refine ev_iaddZ dX3_moved_51 ?_
      refine ev_istore dX3_moved_52 (by decide) rfl ?_
      dsimp only [List.set]
      refine ev_iincZ dX3_moved_54 rfl (by decide) rfl ?_
      dsimp only [List.set]
      refine ev_goto (tgt := 6) dX3_moved_57 (by decide) ?_
      subst c15
      exact hN _ _ ⟨rfl, rfl, rfl, rfl, rfl, rfl, trivial⟩ hM
  · clear hM
    have hM : MX g ad o h0 s h := hX
    refine ev_iload dX3_moved_6 rfl ?_
    refine ev_iload_n dX3_moved_8 rfl ?_
    refine ev_icmp_geZ (tgt := 60) dX3_moved_9 (by decide) (by omega) (by omega) (fun _ => ?_) (fun c => absurd (by omega) c)
    refine ev_iload dX3_moved_60 rfl ?_
    refine ev_ireturn dX3_moved_62 rfl ?_
    exact ⟨rfl, hM⟩
set_option maxRecDepth 100000 in
set_option maxHeartbeats 4000000 in
theorem k_column {D : Dn} {P : Pt} {e n : Nat} (hM : MX g ad o h0 s h) (hD : dnAt (s.2 1) D) (hO : dnOk D) (hk : knAt s (.ok P)) (he : e < 8) (hn : n ≤ 100) (ht : D.2.1 e ≠ -1) (hd : 3 ≤ d) : Kc g mX3_column d 0 0 [.ref o, vz (e : Int), vz (n : Int)] h (mR g ad o h0 (some (vz (posS D P e n false))) s) := by
  refine Kc.of (ls := [some (.ref o), some (vz (e : Int)), some (vz (n : Int))]) (by decide +kernel) (Nat.le_of_ble_eq_true rfl) rfl ?_
  have hs := hD.2.2.1 e he
  have hb := hO.2.2.2.2.1.1 e he
  have hcr : (D.1.1 : Int) * D.1.2 ≤ 9 * 9 := Int.mul_le_mul (by have := hO.2.1; omega) (by have := hO.2.2.2.1; omega) (by omega) (by omega)
  have q1 := hO.1
  have q2 := hO.2.1
  refine ev_aload_n dX3_column_0 rfl ?_
  refine mx_getA hM dX3_column_1 gf_X3_7_X3 rfl ?_
  refine ev_iconstZ dX3_column_4 ?_
  refine ev_iload_n dX3_column_5 rfl ?_
  refine ev_iaddZ dX3_column_6 ?_
  refine ev_to (b := ((2 + e : Nat) : Int)) (by omega) ?_
  refine mx_iald hM rfl dX3_column_7 (by omega) ?_
  try simp only [uS_1, uA_1, uF_1, uS_2, uA_2a, uF_2a, Nat.reduceEqDiff, reduceIte, Int.reduceToNat, Int.toNat_natCast]
  rw [hs]
  refine ev_aload_n dX3_column_8 rfl ?_
  refine mx_getA hM dX3_column_9 gf_X3_7_X3 rfl ?_
  refine ev_iconstZ dX3_column_12 ?_
  refine mx_iald hM rfl dX3_column_13 (by omega) ?_
  try simp only [uS_1, uA_1, uF_1, uS_2, uA_2a, uF_2a, Nat.reduceEqDiff, reduceIte, Int.reduceToNat, Int.toNat_natCast]
  rw [hD.1]
  refine ev_iremZ dX3_column_14 (by omega) (by omega) (by omega) (by omega) ?_
  refine ev_aload_n dX3_column_15 rfl ?_
  refine ev_iload_n dX3_column_16 rfl ?_
  refine ev_iload_n dX3_column_17 rfl ?_
  refine ev_iconstZ dX3_column_18 ?_
  refine mx_call dX3_column_19 cv_X3_332_X3 ce_X3_moved hM rfl rfl (k_moved (P := P) (e := e) (n := n) (row := false) hM hk he hn (d := d - 1) (by omega)) (by omega) (Nat.le_of_ble_eq_true rfl) (fun h hM => ?_)
  refine ev_iaddZ dX3_column_22 ?_
  refine ev_ireturn dX3_column_23 rfl ?_
  exact ⟨rfl, hM⟩
set_option maxRecDepth 100000 in
set_option maxHeartbeats 4000000 in
theorem k_row {D : Dn} {P : Pt} {e n : Nat} (hM : MX g ad o h0 s h) (hD : dnAt (s.2 1) D) (hO : dnOk D) (hk : knAt s (.ok P)) (he : e < 8) (hn : n ≤ 100) (ht : D.2.1 e ≠ -1) (hd : 3 ≤ d) : Kc g mX3_row d 0 0 [.ref o, vz (e : Int), vz (n : Int)] h (mR g ad o h0 (some (vz (posS D P e n true))) s) := by
  refine Kc.of (ls := [some (.ref o), some (vz (e : Int)), some (vz (n : Int))]) (by decide +kernel) (Nat.le_of_ble_eq_true rfl) rfl ?_
  have hs := hD.2.2.1 e he
  have hb := hO.2.2.2.2.1.1 e he
  have hcr : (D.1.1 : Int) * D.1.2 ≤ 9 * 9 := Int.mul_le_mul (by have := hO.2.1; omega) (by have := hO.2.2.2.1; omega) (by omega) (by omega)
  have q1 := hO.1
  have q2 := hO.2.1
  refine ev_aload_n dX3_row_0 rfl ?_
  refine mx_getA hM dX3_row_1 gf_X3_7_X3 rfl ?_
  refine ev_iconstZ dX3_row_4 ?_
  refine ev_iload_n dX3_row_5 rfl ?_
  refine ev_iaddZ dX3_row_6 ?_
  refine ev_to (b := ((2 + e : Nat) : Int)) (by omega) ?_
  refine mx_iald hM rfl dX3_row_7 (by omega) ?_
  try simp only [uS_1, uA_1, uF_1, uS_2, uA_2a, uF_2a, Nat.reduceEqDiff, reduceIte, Int.reduceToNat, Int.toNat_natCast]
  rw [hs]
  refine ev_aload_n dX3_row_8 rfl ?_
  refine mx_getA hM dX3_row_9 gf_X3_7_X3 rfl ?_
  refine ev_iconstZ dX3_row_12 ?_
  refine mx_iald hM rfl dX3_row_13 (by omega) ?_
  try simp only [uS_1, uA_1, uF_1, uS_2, uA_2a, uF_2a, Nat.reduceEqDiff, reduceIte, Int.reduceToNat, Int.toNat_natCast]
  rw [hD.1]
  refine ev_idivZ dX3_row_14 (by omega) (by omega) (by omega) (by omega) ?_
  refine ev_aload_n dX3_row_15 rfl ?_
  refine ev_iload_n dX3_row_16 rfl ?_
  refine ev_iload_n dX3_row_17 rfl ?_
  refine ev_iconstZ dX3_row_18 ?_
  refine mx_call dX3_row_19 cv_X3_332_X3 ce_X3_moved hM rfl rfl (k_moved (P := P) (e := e) (n := n) (row := true) hM hk he hn (d := d - 1) (by omega)) (by omega) (Nat.le_of_ble_eq_true rfl) (fun h hM => ?_)
  refine ev_iaddZ dX3_row_22 ?_
  refine ev_ireturn dX3_row_23 rfl ?_
  exact ⟨rfl, hM⟩
set_option maxRecDepth 100000 in
set_option maxHeartbeats 4000000 in
theorem k_tree {w : Int} {σ : Sp} (hM : MX g ad o h0 s h) (hT : TI s σ) (hO : spOk σ) (hr : inR w) (hd : 9 ≤ d) : Kc g mX3_tree d 0 0 [.ref o, vz w] h (mP g ad o h0 (mRs (opTree σ w))) := by
  refine Kc.of (ls := [some (.ref o), some (vz w)]) (by decide +kernel) (Nat.le_of_ble_eq_true rfl) rfl ?_
  refine ev_aload_n dX3_tree_0 rfl ?_
  refine ev_iconstZ dX3_tree_1 ?_
  refine mx_putI hM dX3_tree_2 gf_X3_111_X3 rfl (fun h hM => ?_)
  refine ev_iload_n dX3_tree_5 rfl ?_
  refine ev_iconstZ dX3_tree_6 ?_
  refine ev_iconstZ dX3_tree_7 ?_
  refine ev_callSE dX3_tree_8 cs_X3_121 ce_X3_in rfl rfl (k_in (d := d - 1) (by omega) (by omega)) (by omega) (Nat.le_of_ble_eq_true rfl) ?_
  refine ev_if_neB (tgt := 20) dX3_tree_11 (by decide) (fun cc => ?_) (fun cc => ?_)
  · have cx : 0 ≤ w ∧ w ≤ 4 := by simpa using cc
    cases hp : σ.1.2.2.2 with
    | none =>
      refine ev_aload_n dX3_tree_20 rfl ?_
      refine ev_iconstZ dX3_tree_21 ?_
      refine mx_callP dX3_tree_22 cv_X3_305_X3 ce_X3_hasNoPiece hM rfl rfl (k_hasNo0 (code := 2) hM (hT.thrown 0) hO hp (d := d - 1) (by omega)) (by omega) (Nat.le_of_ble_eq_true rfl) (fun v s' h hP hM => ?_)
      obtain ⟨rfl, hP⟩ := hP
      refine ev_if_eqZ (tgt := 30) dX3_tree_25 (by decide) (by decide) (fun c => absurd c (by decide)) (fun _ => ?_)
      refine ev_iconstZ dX3_tree_28 ?_
      refine ev_ireturn dX3_tree_29 rfl ?_
      refine ⟨_, _, rfl, ?_, hM⟩
      unfold opTree
      rw [if_pos cx, withP_none hp]
      exact ⟨hP.1, hP.2, rfl⟩
    | some l =>
      refine ev_aload_n dX3_tree_20 rfl ?_
      refine ev_iconstZ dX3_tree_21 ?_
      refine mx_callP dX3_tree_22 cv_X3_305_X3 ce_X3_hasNoPiece hM rfl rfl (k_hasNo1 (code := 2) hM (hT.thrown 0) hO hp (d := d - 1) (by omega)) (by omega) (Nat.le_of_ble_eq_true rfl) (fun v s' h hP hM => ?_)
      obtain ⟨rfl, hz, hT1, g14, hk1, hf1⟩ := hP
      obtain ⟨k15, kpt, kok⟩ := hk1.ok
      have k17 := kpt.1
      have k18 := kpt.2.1
      have k19 := kpt.2.2.1
      have k20 := kpt.2.2.2.1
      obtain ⟨b1, b2, b3⟩ := dn_some hT1.1 hp
      obtain ⟨hok, hsm⟩ := hO.1.2.2.2.2.2.2 l hp
      have hdb : (mean l).1.2.2.1 ≤ 81 := kok.2.2.1
      have hsb := kok.1
      have hub := kok.2.1
      have hcb := kok.2.2.2.1
      refine ev_if_eqZ (tgt := 30) dX3_tree_25 (by decide) (by decide) (fun _ => ?_) (fun c => absurd c (by decide))
      refine ev_iload_n dX3_tree_30 rfl ?_
      have hw : w = 0 ∨ w = 1 ∨ w = 2 ∨ w = 3 ∨ w = 4 := by omega
      rcases hw with rfl | rfl | rfl | rfl | rfl
      · refine ev_tableIn (tgt := 60) dX3_tree_31 (by decide) (by decide) rfl (by decide) ?_
        refine ev_aload_n dX3_tree_60 rfl ?_
        refine mx_getA hM dX3_tree_61 gf_X3_7_X3 rfl ?_
        refine ev_bipushZ dX3_tree_64 rfl ?_
        refine mx_iald hM rfl dX3_tree_66 (by omega) ?_
        try simp only [uS_1, uA_1, uF_1, uS_2, uA_2a, uF_2a, Nat.reduceEqDiff, reduceIte, Int.reduceToNat, Int.toNat_natCast]
        rw [b2.1]
        refine ev_ireturn dX3_tree_67 rfl ?_
        refine ⟨_, _, rfl, ?_, hM⟩
        unfold opTree
        rw [if_pos cx, withP_some hp]
        exact ⟨hz, hT1, rfl⟩
      · refine ev_tableIn (tgt := 68) dX3_tree_31 (by decide) (by decide) rfl (by decide) ?_
        refine ev_aload_n dX3_tree_68 rfl ?_
        refine mx_getI hM dX3_tree_69 gf_X3_147_X3 rfl ?_
        try simp only [uS_1, uA_1, uF_1, uS_2, uA_2a, uF_2a, Nat.reduceEqDiff, reduceIte, Int.reduceToNat, Int.toNat_natCast]
        rw [k19]
        refine ev_ireturn dX3_tree_72 rfl ?_
        refine ⟨_, _, rfl, ?_, hM⟩
        unfold opTree
        rw [if_pos cx, withP_some hp]
        exact ⟨hz, hT1, rfl⟩
      · refine ev_tableIn (tgt := 73) dX3_tree_31 (by decide) (by decide) rfl (by decide) ?_
        refine ev_aload_n dX3_tree_73 rfl ?_
        refine mx_call dX3_tree_74 cv_X3_323_X3 ce_X3_leaves hM rfl rfl (k_leaves hM b2 (fun nd hn => (hok.2 nd hn).1.1) (d := d - 1) (by omega)) (by omega) (Nat.le_of_ble_eq_true rfl) (fun h hM => ?_)
        refine ev_ireturn dX3_tree_77 rfl ?_
        refine ⟨_, _, rfl, ?_, hM⟩
        unfold opTree
        rw [if_pos cx, withP_some hp]
        exact ⟨hz, hT1, rfl⟩
      · refine ev_tableIn (tgt := 78) dX3_tree_31 (by decide) (by decide) rfl (by decide) ?_
        refine ev_aload_n dX3_tree_78 rfl ?_
        refine mx_getI hM dX3_tree_79 gf_X3_141_X3 rfl ?_
        try simp only [uS_1, uA_1, uF_1, uS_2, uA_2a, uF_2a, Nat.reduceEqDiff, reduceIte, Int.reduceToNat, Int.toNat_natCast]
        rw [k17]
        refine ev_ireturn dX3_tree_82 rfl ?_
        refine ⟨_, _, rfl, ?_, hM⟩
        unfold opTree
        rw [if_pos cx, withP_some hp]
        exact ⟨hz, hT1, rfl⟩
      · refine ev_tableOut (tgt := 83) dX3_tree_31 (by decide) (by decide) ?_
        refine ev_aload_n dX3_tree_83 rfl ?_
        refine mx_getI hM dX3_tree_84 gf_X3_144_X3 rfl ?_
        try simp only [uS_1, uA_1, uF_1, uS_2, uA_2a, uF_2a, Nat.reduceEqDiff, reduceIte, Int.reduceToNat, Int.toNat_natCast]
        rw [k18]
        refine ev_ireturn dX3_tree_87 rfl ?_
        refine ⟨_, _, rfl, ?_, hM⟩
        unfold opTree
        rw [if_pos cx, withP_some hp]
        exact ⟨hz, hT1, rfl⟩
  · refine ev_aload_n dX3_tree_14 rfl ?_
    refine ev_iconstZ dX3_tree_15 ?_
    refine mx_call dX3_tree_16 cv_X3_117_X3 ce_X3_fails hM rfl rfl (k_fails (d := d - 1) (by omega) hM) (by omega) (Nat.le_of_ble_eq_true rfl) (fun h hM => ?_)
    refine ev_ireturn dX3_tree_19 rfl ?_
    refine ⟨_, _, rfl, ?_, hM⟩
    unfold opTree
    rw [if_neg (by simp at cc; omega)]
    exact ⟨rfl, hT, rfl⟩
end P6

/-! the reference: leaves (printed by gen) -/
section M1
def uF (s : MSt) (k : Nat) (f : Nat → Int) : MSt := (s.1, uz s.2 k f)
theorem uF_1 (s : MSt) (k : Nat) (f : Nat → Int) : (uF s k f).1 = s.1 := rfl
theorem uF_2 (s : MSt) (k : Nat) (f : Nat → Int) (j : Nat) : (uF s k f).2 j = if j = k then f else s.2 j := rfl
theorem uF_2a (s : MSt) (k : Nat) (f : Nat → Int) (j i : Nat) : (uF s k f).2 j i = if j = k then f i else s.2 j i := by
  show (if j = k then f else s.2 j) i = _
  split <;> rfl
theorem uA_2a (s : MSt) (k i : Nat) (x : Int) (j i' : Nat) : (uA s k i x).2 j i' = if j = k then (if i' = i then x else s.2 k i') else s.2 j i' := by
  show (if j = k then uz (s.2 k) i x else s.2 j) i' = _
  split <;> rfl
theorem uz_ap {α : Type} (f : Nat → α) (k : Nat) (x : α) (j : Nat) : uz f k x j = if j = k then x else f j := rfl
variable {g : GB} {M : MI} {d c k : Nat} {Q : RS → HM → Prop} {pc : Nat} {ls : List (Option Value)} {st : List Value} {h : HM} {a b : Int} {ad : Nat → Nat} {o : Nat} {h0 : HM} {s : MSt}
/-- how long an array is -/
def aN (j : Nat) : Nat := match aL j with
  | some p => p.2
  | none => 0
theorem aN1 : aN 1 = 8645 := rfl
theorem aN2 : aN 2 = 8645 := rfl
theorem aN3 : aN 3 = 8645 := rfl
theorem aN4 : aN 4 = 69160 := rfl
theorem aN9 : aN 9 = 100 := rfl
theorem aN12 : aN 12 = 12000 := rfl
theorem aN21 : aN 21 = 800 := rfl
theorem aN22 : aN 22 = 100 := rfl
theorem aN24 : aN 24 = 80 := rfl
theorem aN25 : aN 25 = 80 := rfl
theorem aN26 : aN 26 = 80 := rfl
theorem aN27 : aN 27 = 80 := rfl
theorem aN28 : aN 28 = 80 := rfl
theorem aN29 : aN 29 = 80 := rfl
theorem aN30 : aN 30 = 80 := rfl
theorem aN31 : aN 31 = 80 := rfl
theorem aN32 : aN 32 = 80 := rfl
theorem aN33 : aN 33 = 64000 := rfl
theorem aN34 : aN 34 = 8000 := rfl
theorem aN38 : aN 38 = 12 := rfl
theorem aN39 : aN 39 = 12 := rfl
theorem aN40 : aN 40 = 800 := rfl
theorem aN41 : aN 41 = 800 := rfl
theorem aN47 : aN 47 = 168 := rfl
theorem aN48 : aN 48 = 8 := rfl
theorem aN49 : aN 49 = 160 := rfl
theorem aN50 : aN 50 = 8 := rfl
theorem aN51 : aN 51 = 1701 := rfl
theorem aN52 : aN 52 = 1701 := rfl
theorem MX.congr2 {s s' : MSt} (hM : MX g ad o h0 s h) (h1 : ∀ k, k < 53 → aL k = none → s'.1 k = s.1 k) (h2 : ∀ j i, i < aN j → s'.2 j i = s.2 j i) : MX g ad o h0 s' h := hM.congr h1 (fun j p hp i hi => h2 j i (by unfold aN; rw [hp]; exact hi))
/-- fewer locals known -/
def wkL : List (Option Value) → List (Option Value) → Prop
  | [], _ => True
  | none :: as, bs => wkL as bs.tail
  | some a :: as, b :: bs => b = some a ∧ wkL as bs
  | some _ :: _, [] => False
theorem wkL.get : ∀ {as bs : List (Option Value)}, wkL as bs → ∀ (i : Nat) (v : Value), as[i]? = some (some v) → bs[i]? = some (some v) := by
  intro as
  induction as with
  | nil => intro bs _ i v h; simp at h
  | cons a as ih =>
    intro bs hw i v h
    cases a with
    | none =>
      cases i with
      | zero => simp at h
      | succ i =>
        have q := ih hw i v (by simpa using h)
        cases bs with
        | nil => simp at q
        | cons b bs => simpa using q
    | some a =>
      cases bs with
      | nil => exact hw.elim
      | cons b bs =>
        cases i with
        | zero => rw [hw.1]; simpa using h
        | succ i => simpa using ih hw.2 i v (by simpa using h)
theorem wkL.refl : ∀ as : List (Option Value), wkL as as := by
  intro as
  induction as with
  | nil => exact trivial
  | cons a as ih => cases a with
    | none => exact ih
    | some a => exact ⟨rfl, ih⟩
theorem Ev.forget {ls' : List (Option Value)} (kk : Ev g M d c k Q pc ls' st h) (hw : wkL ls' ls) : Ev g M d c k Q pc ls st h :=
  fun p l e R s m args below meth cd H locs cells slots mc ms lz F hc hk h1 h2 hL => kk p l e R s m args below meth cd H locs cells slots mc ms lz F hc hk h1 h2 ⟨hL.1, hL.2.1, fun i v hi => hL.2.2 i v (hw.get i v hi)⟩
theorem ev_ldciZ {index : Nat} {n : Int} {v : Int32} (hd : decode M.2.1 pc = .ok (.ldc index, 2)) (hw : (Jvm.Cond.constant M.1.cls index v) ∈ lw_all) (he : v = zI n) (kk : Ev g M d c k Q (pc + 2) ls (vz n :: st) h) : Ev g M d c k Q pc ls st h := by
  subst he
  exact ev_ldci hd hw kk
theorem vz_eq {x y : Int} (e : x = y) : some (vz x) = some (vz y) := by rw [e]
/-- a number's other name -/
theorem ev_to (e : a = b) (kk : Ev g M d c k Q pc ls (vz b :: st) h) : Ev g M d c k Q pc ls (vz a :: st) h := by rw [e]; exact kk
/-- a loop that counts up -/
theorem ev_for (n : Nat) (P : Nat → HM → Prop) (L : Nat → List (Option Value)) (a : Nat) (ha : a ≤ n) (hP : P a h) (hl : wkL (L a) ls) (step : ∀ (i : Nat) (h : HM), a ≤ i → i < n → P i h → (∀ (ls' : List (Option Value)) (h' : HM), wkL (L (i + 1)) ls' → P (i + 1) h' → Ev g M d c k Q pc ls' st h') → Ev g M d c k Q pc (L i) st h) (last : ∀ h, P n h → Ev g M d c k Q pc (L n) st h) : Ev g M d c k Q pc ls st h := by
  refine Ev.forget ?_ hl
  have key : ∀ (m i : Nat) (h : HM), m + i = n → a ≤ i → P i h → Ev g M d c k Q pc (L i) st h := by
    intro m
    induction m with
    | zero => intro i h e _ hp; rw [show i = n by omega] at hp ⊢; exact last h hp
    | succ m ih => intro i h e hi hp; exact step i h hi (by omega) hp (fun ls' h' hw hp' => Ev.forget (ih (i + 1) h' (by omega) (by omega) hp') hw)
  exact key (n - a) a h (by omega) (Nat.le_refl _) hP
/-- a loop with a measure -/
theorem ev_while {X : Type} (m : X → Nat) (P : X → HM → Prop) (L : X → List (Option Value)) (x : X) (hP : P x h) (hl : wkL (L x) ls) (step : ∀ (x : X) (h : HM), P x h → (∀ (y : X) (ls' : List (Option Value)) (h' : HM), m y < m x → wkL (L y) ls' → P y h' → Ev g M d c k Q pc ls' st h') → Ev g M d c k Q pc (L x) st h) : Ev g M d c k Q pc ls st h := by
  refine Ev.forget ?_ hl
  have key : ∀ (n : Nat) (x : X) (h : HM), m x < n → P x h → Ev g M d c k Q pc (L x) st h := by
    intro n
    induction n with
    | zero => intro x h e; omega
    | succ n ih => intro x h e hp; exact step x h hp (fun y ls' h' e' hw hp' => Ev.forget (ih y h' (by omega) hp') hw)
  exact key (m x + 1) x h (Nat.lt_succ_self _) hP
theorem bI_0 (x : Bool) : 0 ≤ bI x ∧ bI x ≤ 1 := by cases x <;> decide
theorem bI_o (x : Bool) : bI x = 0 ∨ bI x = 1 := by cases x <;> simp [bI]
theorem ofI (x : Bool) : (if x then (1 : Int) else 0) = bI x := rfl

set_option maxRecDepth 100000 in
set_option maxHeartbeats 4000000 in
theorem k_thrown (hd : 1 ≤ d) (hM : MX g ad o h0 s h) : Kc g mX3_thrown d 0 0 [.ref o] h (mR g ad o h0 (some (vz (s.1 0))) s) := by
  refine Kc.of (ls := [some (.ref o)]) (by decide +kernel) (Nat.le_of_ble_eq_true rfl) rfl ?_
  refine ev_aload_n dX3_thrown_0 rfl ?_
  refine mx_getI hM dX3_thrown_1 gf_X3_111_X3 rfl ?_
  refine ev_ireturn dX3_thrown_4 rfl ?_
  exact ⟨rfl, hM⟩
set_option maxRecDepth 100000 in
set_option maxHeartbeats 4000000 in
theorem k_fails {code : Int} (hd : 1 ≤ d) (hM : MX g ad o h0 s h) : Kc g mX3_fails d 0 0 [.ref o, vz code] h (mR g ad o h0 (some (vz 0)) (uS s 0 code)) := by
  refine Kc.of (ls := [some (.ref o), some (vz code)]) (by decide +kernel) (Nat.le_of_ble_eq_true rfl) rfl ?_
  refine ev_aload_n dX3_fails_0 rfl ?_
  refine ev_iload_n dX3_fails_1 rfl ?_
  refine mx_putI hM dX3_fails_2 gf_X3_111_X3 rfl (fun h hM => ?_)
  refine ev_iconstZ dX3_fails_5 ?_
  refine ev_ireturn dX3_fails_6 rfl ?_
  exact ⟨rfl, hM⟩
set_option maxRecDepth 100000 in
set_option maxHeartbeats 4000000 in
theorem k_stops {why : Int} {code : Int} (hd : 2 ≤ d) (hM : MX g ad o h0 s h) : Kc g mX3_stops d 0 0 [.ref o, vz why, vz code] h (mR g ad o h0 (some (vz 0)) (uS (uS s 7 why) 0 code)) := by
  refine Kc.of (ls := [some (.ref o), some (vz why), some (vz code)]) (by decide +kernel) (Nat.le_of_ble_eq_true rfl) rfl ?_
  refine ev_aload_n dX3_stops_0 rfl ?_
  refine ev_iload_n dX3_stops_1 rfl ?_
  refine mx_putI hM dX3_stops_2 gf_X3_114_X3 rfl (fun h hM => ?_)
  refine ev_aload_n dX3_stops_5 rfl ?_
  refine ev_iload_n dX3_stops_6 rfl ?_
  refine mx_call dX3_stops_7 cv_X3_117_X3 ce_X3_fails hM rfl rfl (k_fails (d := d - 1) (by omega) hM) (by omega) (Nat.le_of_ble_eq_true rfl) (fun h hM => ?_)
  refine ev_ireturn dX3_stops_10 rfl ?_
  exact ⟨rfl, hM⟩
theorem bI_t {p : Prop} {dp : Decidable p} (h : p) : bI (decide p) = 1 := by simp [bI, h]
theorem bI_f {p : Prop} {dp : Decidable p} (h : ¬ p) : bI (decide p) = 0 := by simp [bI, h]
set_option maxRecDepth 100000 in
set_option maxHeartbeats 4000000 in
theorem k_in {v : Int} {lo : Int} {hi : Int} (hd : 1 ≤ d) (hp : inR v ∧ inR lo ∧ inR hi) : Kc g mX3_in d 0 0 [vz v, vz lo, vz hi] h (sR (some (vz (bI (decide (lo ≤ v ∧ v ≤ hi))))) h) := by
  refine Kc.of (ls := [some (vz v), some (vz lo), some (vz hi)]) (by decide +kernel) (Nat.le_of_ble_eq_true rfl) rfl ?_
  refine ev_iload_n dX3_in_0 rfl ?_
  refine ev_iload_n dX3_in_1 rfl ?_
  refine ev_icmp_ltZ (tgt := 14) dX3_in_2 (by decide) (by omega) (by omega) (fun c2 => ?_) (fun c2 => ?_)
  · refine ev_iconstZ dX3_in_14 ?_
    refine ev_zreturn dX3_in_15 rfl rfl ?_
    first | (exact ⟨by rw [bI_t]; omega, rfl⟩) | exact ⟨by rw [bI_f]; omega, rfl⟩
  · refine ev_iload_n dX3_in_5 rfl ?_
    refine ev_iload_n dX3_in_6 rfl ?_
    refine ev_icmp_gtZ (tgt := 14) dX3_in_7 (by decide) (by omega) (by omega) (fun c7 => ?_) (fun c7 => ?_)
    · refine ev_iconstZ dX3_in_14 ?_
      refine ev_zreturn dX3_in_15 rfl rfl ?_
      first | (exact ⟨by rw [bI_t]; omega, rfl⟩) | exact ⟨by rw [bI_f]; omega, rfl⟩
    · refine ev_iconstZ dX3_in_10 ?_
      refine ev_goto (tgt := 15) dX3_in_11 (by decide) ?_
      refine ev_zreturn dX3_in_15 rfl rfl ?_
      first | (exact ⟨by rw [bI_t]; omega, rfl⟩) | exact ⟨by rw [bI_f]; omega, rfl⟩
set_option maxRecDepth 100000 in
set_option maxHeartbeats 4000000 in
theorem k_isDancer {v : Int} (hd : 2 ≤ d) (hp : inR v) : Kc g mX3_isDancer d 0 0 [vz v] h (sR (some (vz (bI (decide (0 ≤ v ∧ v ≤ 7))))) h) := by
  refine Kc.of (ls := [some (vz v)]) (by decide +kernel) (Nat.le_of_ble_eq_true rfl) rfl ?_
  refine ev_iload_n dX3_isDancer_0 rfl ?_
  refine ev_iconstZ dX3_isDancer_1 ?_
  refine ev_bipushZ dX3_isDancer_2 rfl ?_
  refine ev_callSE dX3_isDancer_4 cs_X3_121 ce_X3_in rfl rfl (k_in (d := d - 1) (by omega) (by omega)) (by omega) (Nat.le_of_ble_eq_true rfl) ?_
  refine ev_zreturn dX3_isDancer_7 rfl (narrow_zb (bI_o _)) ?_
  exact ⟨rfl, rfl⟩
set_option maxRecDepth 100000 in
set_option maxHeartbeats 4000000 in
theorem k_isPlace {v : Int} (hd : 2 ≤ d) (hM : MX g ad o h0 s h) (hp : inR v ∧ 0 ≤ s.2 1 0 ∧ s.2 1 0 ≤ 9 ∧ 0 ≤ s.2 1 1 ∧ s.2 1 1 ≤ 9) : Kc g mX3_isPlace d 0 0 [.ref o, vz v] h (mR g ad o h0 (some (vz (bI (decide (0 ≤ v ∧ v ≤ s.2 1 0 * s.2 1 1 - 1))))) s) := by
  refine Kc.of (ls := [some (.ref o), some (vz v)]) (by decide +kernel) (Nat.le_of_ble_eq_true rfl) rfl ?_
  have hm : 0 ≤ s.2 1 0 * s.2 1 1 := Int.mul_nonneg (by omega) (by omega)
  have hm2 : s.2 1 0 * s.2 1 1 ≤ 9 * 9 := Int.mul_le_mul (by omega) (by omega) (by omega) (by omega)
  refine ev_iload_n dX3_isPlace_0 rfl ?_
  refine ev_iconstZ dX3_isPlace_1 ?_
  refine ev_aload_n dX3_isPlace_2 rfl ?_
  refine mx_getA hM dX3_isPlace_3 gf_X3_7_X3 rfl ?_
  refine ev_iconstZ dX3_isPlace_6 ?_
  refine mx_iald hM rfl dX3_isPlace_7 (by omega) ?_
  try simp only [uS_1, uA_1, uF_1, uS_2, uA_2a, uF_2a, Nat.reduceEqDiff, reduceIte, Int.reduceToNat, Int.toNat_natCast]
  refine ev_aload_n dX3_isPlace_8 rfl ?_
  refine mx_getA hM dX3_isPlace_9 gf_X3_7_X3 rfl ?_
  refine ev_iconstZ dX3_isPlace_12 ?_
  refine mx_iald hM rfl dX3_isPlace_13 (by omega) ?_
  try simp only [uS_1, uA_1, uF_1, uS_2, uA_2a, uF_2a, Nat.reduceEqDiff, reduceIte, Int.reduceToNat, Int.toNat_natCast]
  refine ev_imulZ dX3_isPlace_14 ?_
  refine ev_iconstZ dX3_isPlace_15 ?_
  refine ev_isubZ dX3_isPlace_16 ?_
  refine ev_callSE dX3_isPlace_17 cs_X3_121 ce_X3_in rfl rfl (k_in (d := d - 1) (by omega) (by omega)) (by omega) (Nat.le_of_ble_eq_true rfl) ?_
  refine ev_zreturn dX3_isPlace_20 rfl (narrow_zb (bI_o _)) ?_
  exact ⟨rfl, hM⟩
def opp (x : Int) : Int := if x = 0 then 0 else if x % 2 = 1 then x + 1 else x - 1
def sgn (x : Int) : Int := if x = 1 then 110 else if x = 2 then 115 else if x = 3 then 101 else if x = 4 then 119 else 46
def stp (x : Int) : Int := if x = 46 then 0 else if x = 110 then 1 else if x = 115 then 2 else if x = 101 then 3 else if x = 119 then 4 else -1
def acr (x : Int) : Int := if x = 3 then 1 else if x = 4 then -1 else 0
def alo (x : Int) : Int := if x = 1 then 1 else if x = 2 then -1 else 0
def trd (x : Int) : Int := if x = 0 then 1 else if x = 1 then 3 else if x = 2 then 2 else if x = 3 then 4 else 0
def amt (x : Int) : Int := if x < 0 then -x else x
set_option maxRecDepth 100000 in
set_option maxHeartbeats 4000000 in
theorem k_opposite {v : Int} (hd : 1 ≤ d) (hp : 0 ≤ v ∧ v < 1000) : Kc g mX3_opposite d 0 0 [vz v] h (sR (some (vz (opp v))) h) := by
  refine Kc.of (ls := [some (vz v)]) (by decide +kernel) (Nat.le_of_ble_eq_true rfl) rfl ?_
  refine ev_iload_n dX3_opposite_0 rfl ?_
  refine ev_if_neZ (tgt := 8) dX3_opposite_1 (by decide) (by omega) (fun c1 => ?_) (fun c1 => ?_)
  · refine ev_iload_n dX3_opposite_8 rfl ?_
    refine ev_iconstZ dX3_opposite_9 ?_
    refine ev_iremZ dX3_opposite_10 (by omega) (by omega) (by omega) (by omega) ?_
    refine ev_iconstZ dX3_opposite_11 ?_
    refine ev_icmp_neZ (tgt := 21) dX3_opposite_12 (by decide) (by omega) (by omega) (fun c12 => ?_) (fun c12 => ?_)
    · refine ev_iload_n dX3_opposite_21 rfl ?_
      refine ev_iconstZ dX3_opposite_22 ?_
      refine ev_isubZ dX3_opposite_23 ?_
      refine ev_ireturn dX3_opposite_24 rfl ?_
      exact ⟨by unfold opp; grind, rfl⟩
    · refine ev_iload_n dX3_opposite_15 rfl ?_
      refine ev_iconstZ dX3_opposite_16 ?_
      refine ev_iaddZ dX3_opposite_17 ?_
      refine ev_goto (tgt := 24) dX3_opposite_18 (by decide) ?_
      refine ev_ireturn dX3_opposite_24 rfl ?_
      exact ⟨by unfold opp; grind, rfl⟩
  · refine ev_iconstZ dX3_opposite_4 ?_
    refine ev_goto (tgt := 24) dX3_opposite_5 (by decide) ?_
    refine ev_ireturn dX3_opposite_24 rfl ?_
    exact ⟨by unfold opp; grind, rfl⟩
set_option maxRecDepth 100000 in
set_option maxHeartbeats 4000000 in
theorem k_stepOf {v : Int} (hd : 1 ≤ d) (hp : inR v) : Kc g mX3_stepOf d 0 0 [vz v] h (sR (some (vz (stp v))) h) := by
  refine Kc.of (ls := [some (vz v)]) (by decide +kernel) (Nat.le_of_ble_eq_true rfl) rfl ?_
  refine ev_iload_n dX3_stepOf_0 rfl ?_
  refine ev_bipushZ dX3_stepOf_1 rfl ?_
  refine ev_icmp_neZ (tgt := 10) dX3_stepOf_3 (by decide) (by omega) (by omega) (fun c3 => ?_) (fun c3 => ?_)
  · refine ev_iload_n dX3_stepOf_10 rfl ?_
    refine ev_bipushZ dX3_stepOf_11 rfl ?_
    refine ev_icmp_neZ (tgt := 20) dX3_stepOf_13 (by decide) (by omega) (by omega) (fun c13 => ?_) (fun c13 => ?_)
    · refine ev_iload_n dX3_stepOf_20 rfl ?_
      refine ev_bipushZ dX3_stepOf_21 rfl ?_
      refine ev_icmp_neZ (tgt := 30) dX3_stepOf_23 (by decide) (by omega) (by omega) (fun c23 => ?_) (fun c23 => ?_)
      · refine ev_iload_n dX3_stepOf_30 rfl ?_
        refine ev_bipushZ dX3_stepOf_31 rfl ?_
        refine ev_icmp_neZ (tgt := 40) dX3_stepOf_33 (by decide) (by omega) (by omega) (fun c33 => ?_) (fun c33 => ?_)
        · refine ev_iload_n dX3_stepOf_40 rfl ?_
          refine ev_bipushZ dX3_stepOf_41 rfl ?_
          refine ev_icmp_neZ (tgt := 50) dX3_stepOf_43 (by decide) (by omega) (by omega) (fun c43 => ?_) (fun c43 => ?_)
          · refine ev_iconstZ dX3_stepOf_50 ?_
            refine ev_ireturn dX3_stepOf_51 rfl ?_
            exact ⟨by unfold stp; grind, rfl⟩
          · refine ev_iconstZ dX3_stepOf_46 ?_
            refine ev_goto (tgt := 51) dX3_stepOf_47 (by decide) ?_
            refine ev_ireturn dX3_stepOf_51 rfl ?_
            exact ⟨by unfold stp; grind, rfl⟩
        · refine ev_iconstZ dX3_stepOf_36 ?_
          refine ev_goto (tgt := 51) dX3_stepOf_37 (by decide) ?_
          refine ev_ireturn dX3_stepOf_51 rfl ?_
          exact ⟨by unfold stp; grind, rfl⟩
      · refine ev_iconstZ dX3_stepOf_26 ?_
        refine ev_goto (tgt := 51) dX3_stepOf_27 (by decide) ?_
        refine ev_ireturn dX3_stepOf_51 rfl ?_
        exact ⟨by unfold stp; grind, rfl⟩
    · refine ev_iconstZ dX3_stepOf_16 ?_
      refine ev_goto (tgt := 51) dX3_stepOf_17 (by decide) ?_
      refine ev_ireturn dX3_stepOf_51 rfl ?_
      exact ⟨by unfold stp; grind, rfl⟩
  · refine ev_iconstZ dX3_stepOf_6 ?_
    refine ev_goto (tgt := 51) dX3_stepOf_7 (by decide) ?_
    refine ev_ireturn dX3_stepOf_51 rfl ?_
    exact ⟨by unfold stp; grind, rfl⟩
set_option maxRecDepth 100000 in
set_option maxHeartbeats 4000000 in
theorem k_across {v : Int} (hd : 1 ≤ d) (hp : inR v) : Kc g mX3_across d 0 0 [vz v] h (sR (some (vz (acr v))) h) := by
  refine Kc.of (ls := [some (vz v)]) (by decide +kernel) (Nat.le_of_ble_eq_true rfl) rfl ?_
  refine ev_iload_n dX3_across_0 rfl ?_
  refine ev_iconstZ dX3_across_1 ?_
  refine ev_icmp_neZ (tgt := 9) dX3_across_2 (by decide) (by omega) (by omega) (fun c2 => ?_) (fun c2 => ?_)
  · refine ev_iload_n dX3_across_9 rfl ?_
    refine ev_iconstZ dX3_across_10 ?_
    refine ev_icmp_neZ (tgt := 18) dX3_across_11 (by decide) (by omega) (by omega) (fun c11 => ?_) (fun c11 => ?_)
    · refine ev_iconstZ dX3_across_18 ?_
      refine ev_ireturn dX3_across_19 rfl ?_
      exact ⟨by unfold acr; grind, rfl⟩
    · refine ev_iconstZ dX3_across_14 ?_
      refine ev_goto (tgt := 19) dX3_across_15 (by decide) ?_
      refine ev_ireturn dX3_across_19 rfl ?_
      exact ⟨by unfold acr; grind, rfl⟩
  · refine ev_iconstZ dX3_across_5 ?_
    refine ev_goto (tgt := 19) dX3_across_6 (by decide) ?_
    refine ev_ireturn dX3_across_19 rfl ?_
    exact ⟨by unfold acr; grind, rfl⟩
set_option maxRecDepth 100000 in
set_option maxHeartbeats 4000000 in
theorem k_along {v : Int} (hd : 1 ≤ d) (hp : inR v) : Kc g mX3_along d 0 0 [vz v] h (sR (some (vz (alo v))) h) := by
  refine Kc.of (ls := [some (vz v)]) (by decide +kernel) (Nat.le_of_ble_eq_true rfl) rfl ?_
  refine ev_iload_n dX3_along_0 rfl ?_
  refine ev_iconstZ dX3_along_1 ?_
  refine ev_icmp_neZ (tgt := 9) dX3_along_2 (by decide) (by omega) (by omega) (fun c2 => ?_) (fun c2 => ?_)
  · refine ev_iload_n dX3_along_9 rfl ?_
    refine ev_iconstZ dX3_along_10 ?_
    refine ev_icmp_neZ (tgt := 18) dX3_along_11 (by decide) (by omega) (by omega) (fun c11 => ?_) (fun c11 => ?_)
    · refine ev_iconstZ dX3_along_18 ?_
      refine ev_ireturn dX3_along_19 rfl ?_
      exact ⟨by unfold alo; grind, rfl⟩
    · refine ev_iconstZ dX3_along_14 ?_
      refine ev_goto (tgt := 19) dX3_along_15 (by decide) ?_
      refine ev_ireturn dX3_along_19 rfl ?_
      exact ⟨by unfold alo; grind, rfl⟩
  · refine ev_iconstZ dX3_along_5 ?_
    refine ev_goto (tgt := 19) dX3_along_6 (by decide) ?_
    refine ev_ireturn dX3_along_19 rfl ?_
    exact ⟨by unfold alo; grind, rfl⟩
set_option maxRecDepth 100000 in
set_option maxHeartbeats 4000000 in
theorem k_tried {v : Int} (hd : 1 ≤ d) (hp : inR v) : Kc g mX3_tried d 0 0 [vz v] h (sR (some (vz (trd v))) h) := by
  refine Kc.of (ls := [some (vz v)]) (by decide +kernel) (Nat.le_of_ble_eq_true rfl) rfl ?_
  refine ev_iload_n dX3_tried_0 rfl ?_
  refine ev_if_neZ (tgt := 8) dX3_tried_1 (by decide) (by omega) (fun c1 => ?_) (fun c1 => ?_)
  · refine ev_iload_n dX3_tried_8 rfl ?_
    refine ev_iconstZ dX3_tried_9 ?_
    refine ev_icmp_neZ (tgt := 17) dX3_tried_10 (by decide) (by omega) (by omega) (fun c10 => ?_) (fun c10 => ?_)
    · refine ev_iload_n dX3_tried_17 rfl ?_
      refine ev_iconstZ dX3_tried_18 ?_
      refine ev_icmp_neZ (tgt := 26) dX3_tried_19 (by decide) (by omega) (by omega) (fun c19 => ?_) (fun c19 => ?_)
      · refine ev_iload_n dX3_tried_26 rfl ?_
        refine ev_iconstZ dX3_tried_27 ?_
        refine ev_icmp_neZ (tgt := 35) dX3_tried_28 (by decide) (by omega) (by omega) (fun c28 => ?_) (fun c28 => ?_)
        · refine ev_iconstZ dX3_tried_35 ?_
          refine ev_ireturn dX3_tried_36 rfl ?_
          exact ⟨by unfold trd; grind, rfl⟩
        · refine ev_iconstZ dX3_tried_31 ?_
          refine ev_goto (tgt := 36) dX3_tried_32 (by decide) ?_
          refine ev_ireturn dX3_tried_36 rfl ?_
          exact ⟨by unfold trd; grind, rfl⟩
      · refine ev_iconstZ dX3_tried_22 ?_
        refine ev_goto (tgt := 36) dX3_tried_23 (by decide) ?_
        refine ev_ireturn dX3_tried_36 rfl ?_
        exact ⟨by unfold trd; grind, rfl⟩
    · refine ev_iconstZ dX3_tried_13 ?_
      refine ev_goto (tgt := 36) dX3_tried_14 (by decide) ?_
      refine ev_ireturn dX3_tried_36 rfl ?_
      exact ⟨by unfold trd; grind, rfl⟩
  · refine ev_iconstZ dX3_tried_4 ?_
    refine ev_goto (tgt := 36) dX3_tried_5 (by decide) ?_
    refine ev_ireturn dX3_tried_36 rfl ?_
    exact ⟨by unfold trd; grind, rfl⟩
set_option maxRecDepth 100000 in
set_option maxHeartbeats 4000000 in
theorem k_amount {v : Int} (hd : 1 ≤ d) (hp : inR v) : Kc g mX3_amount d 0 0 [vz v] h (sR (some (vz (amt v))) h) := by
  refine Kc.of (ls := [some (vz v)]) (by decide +kernel) (Nat.le_of_ble_eq_true rfl) rfl ?_
  refine ev_iload_n dX3_amount_0 rfl ?_
  refine ev_if_geZ (tgt := 9) dX3_amount_1 (by decide) (by omega) (fun c1 => ?_) (fun c1 => ?_)
  · refine ev_iload_n dX3_amount_9 rfl ?_
    refine ev_ireturn dX3_amount_10 rfl ?_
    exact ⟨by unfold amt; grind, rfl⟩
  · refine ev_iload_n dX3_amount_4 rfl ?_
    refine ev_inegZ dX3_amount_5 ?_
    refine ev_goto (tgt := 10) dX3_amount_6 (by decide) ?_
    refine ev_ireturn dX3_amount_10 rfl ?_
    exact ⟨by unfold amt; grind, rfl⟩
set_option maxRecDepth 100000 in
set_option maxHeartbeats 4000000 in
theorem k_of {n : Int} {w : Int} (hd : 1 ≤ d) (hM : MX g ad o h0 s h) (hp : 0 ≤ n ∧ n < 1100 ∧ 0 ≤ w ∧ w < 6) : Kc g mX3_of d 0 0 [.ref o, vz n, vz w] h (mR g ad o h0 (some (vz (s.2 1 (45 + 6 * n + w).toNat))) s) := by
  refine Kc.of (ls := [some (.ref o), some (vz n), some (vz w)]) (by decide +kernel) (Nat.le_of_ble_eq_true rfl) rfl ?_
  refine ev_aload_n dX3_of_0 rfl ?_
  refine mx_getA hM dX3_of_1 gf_X3_7_X3 rfl ?_
  refine ev_bipushZ dX3_of_4 rfl ?_
  refine ev_bipushZ dX3_of_6 rfl ?_
  refine ev_iload_n dX3_of_8 rfl ?_
  refine ev_imulZ dX3_of_9 ?_
  refine ev_iaddZ dX3_of_10 ?_
  refine ev_iload_n dX3_of_11 rfl ?_
  refine ev_iaddZ dX3_of_12 ?_
  refine mx_iald hM rfl dX3_of_13 (by omega) ?_
  try simp only [uS_1, uA_1, uF_1, uS_2, uA_2a, uF_2a, Nat.reduceEqDiff, reduceIte, Int.reduceToNat, Int.toNat_natCast]
  refine ev_ireturn dX3_of_14 rfl ?_
  exact ⟨rfl, hM⟩
set_option maxRecDepth 100000 in
set_option maxHeartbeats 4000000 in
theorem k_ofN {n w : Nat} {x : Int} (hd : 1 ≤ d) (hM : MX g ad o h0 s h) (hw : n < 1100 ∧ w < 6) (hx : s.2 1 (45 + 6 * n + w) = x) : Kc g mX3_of d 0 0 [.ref o, vz (n : Int), vz (w : Int)] h (mR g ad o h0 (some (vz x)) s) := by
  have e := k_of (n := (n : Int)) (w := (w : Int)) hd hM (by omega)
  rw [show (45 + 6 * (n : Int) + (w : Int)).toNat = 45 + 6 * n + w by omega, hx] at e
  exact e
set_option maxRecDepth 100000 in
set_option maxHeartbeats 4000000 in
theorem k_kind {n : Int} (hd : 2 ≤ d) (hM : MX g ad o h0 s h) (hp : 0 ≤ n ∧ n < 1100) : Kc g mX3_kind d 0 0 [.ref o, vz n] h (mR g ad o h0 (some (vz (s.2 1 (45 + 6 * n + 0).toNat))) s) := by
  refine Kc.of (ls := [some (.ref o), some (vz n)]) (by decide +kernel) (Nat.le_of_ble_eq_true rfl) rfl ?_
  refine ev_aload_n dX3_kind_0 rfl ?_
  refine ev_iload_n dX3_kind_1 rfl ?_
  refine ev_iconstZ dX3_kind_2 ?_
  refine mx_call dX3_kind_3 cv_X3_133_X3 ce_X3_of hM rfl rfl (k_of (d := d - 1) (by omega) hM (by omega)) (by omega) (Nat.le_of_ble_eq_true rfl) (fun h hM => ?_)
  refine ev_ireturn dX3_kind_6 rfl ?_
  exact ⟨rfl, hM⟩
set_option maxRecDepth 100000 in
set_option maxHeartbeats 4000000 in
theorem k_put {n : Int} {w : Int} {v : Int} (hd : 1 ≤ d) (hM : MX g ad o h0 s h) (hp : 0 ≤ n ∧ n < 1100 ∧ 0 ≤ w ∧ w < 6) : Kc g mX3_put d 0 0 [.ref o, vz n, vz w, vz v] h (mR g ad o h0 none (uA s 1 (45 + 6 * n + w).toNat v)) := by
  refine Kc.of (ls := [some (.ref o), some (vz n), some (vz w), some (vz v)]) (by decide +kernel) (Nat.le_of_ble_eq_true rfl) rfl ?_
  refine ev_aload_n dX3_put_0 rfl ?_
  refine mx_getA hM dX3_put_1 gf_X3_7_X3 rfl ?_
  refine ev_bipushZ dX3_put_4 rfl ?_
  refine ev_bipushZ dX3_put_6 rfl ?_
  refine ev_iload_n dX3_put_8 rfl ?_
  refine ev_imulZ dX3_put_9 ?_
  refine ev_iaddZ dX3_put_10 ?_
  refine ev_iload_n dX3_put_11 rfl ?_
  refine ev_iaddZ dX3_put_12 ?_
  refine ev_iload_n dX3_put_13 rfl ?_
  refine mx_iast hM rfl dX3_put_14 (by omega) (fun h hM => ?_)
  refine ev_return dX3_put_15 rfl ?_
  exact ⟨rfl, hM⟩
set_option maxRecDepth 100000 in
set_option maxHeartbeats 4000000 in
theorem k_kindN {n : Nat} {x : Int} (hd : 2 ≤ d) (hM : MX g ad o h0 s h) (hw : n < 1100) (hx : s.2 1 (45 + 6 * n) = x) : Kc g mX3_kind d 0 0 [.ref o, vz (n : Int)] h (mR g ad o h0 (some (vz x)) s) := by
  have e := k_kind (n := (n : Int)) hd hM (by omega)
  rw [show (45 + 6 * (n : Int) + 0).toNat = 45 + 6 * n by omega, hx] at e
  exact e
set_option maxRecDepth 100000 in
set_option maxHeartbeats 4000000 in
theorem k_data {n : Int} (hd : 1 ≤ d) (hM : MX g ad o h0 s h) (hp : 0 ≤ n ∧ n < 2000) : Kc g mX3_data d 0 0 [.ref o, vz n] h (mR g ad o h0 (some (vz (s.2 1 (6645 + n).toNat))) s) := by
  refine Kc.of (ls := [some (.ref o), some (vz n)]) (by decide +kernel) (Nat.le_of_ble_eq_true rfl) rfl ?_
  refine ev_aload_n dX3_data_0 rfl ?_
  refine mx_getA hM dX3_data_1 gf_X3_7_X3 rfl ?_
  refine ev_sipushZ dX3_data_4 rfl ?_
  refine ev_iload_n dX3_data_7 rfl ?_
  refine ev_iaddZ dX3_data_8 ?_
  refine mx_iald hM rfl dX3_data_9 (by omega) ?_
  try simp only [uS_1, uA_1, uF_1, uS_2, uA_2a, uF_2a, Nat.reduceEqDiff, reduceIte, Int.reduceToNat, Int.toNat_natCast]
  refine ev_ireturn dX3_data_10 rfl ?_
  exact ⟨rfl, hM⟩
set_option maxRecDepth 100000 in
set_option maxHeartbeats 4000000 in
theorem k_dataN {n : Nat} {x : Int} (hd : 1 ≤ d) (hM : MX g ad o h0 s h) (hw : n < 2000) (hx : s.2 1 (6645 + n) = x) : Kc g mX3_data d 0 0 [.ref o, vz (n : Int)] h (mR g ad o h0 (some (vz x)) s) := by
  have e := k_data (n := (n : Int)) hd hM (by omega)
  rw [show (6645 + (n : Int)).toNat = 6645 + n by omega, hx] at e
  exact e
def begA (A : Nat → Int) (c r : Int) : Nat → Int := fun j => if j = 0 then c else if j = 1 then r else if 2 ≤ j ∧ j < 42 then -1 else if j < 8645 then 0 else A j
set_option maxRecDepth 100000 in
set_option maxHeartbeats 4000000 in
theorem k_begins {c : Int} {r : Int} (hd : 1 ≤ d) (hM : MX g ad o h0 s h) : Kc g mX3_begins d 0 0 [.ref o, vz c, vz r] h (mR g ad o h0 none (uS (uS (uF s 1 (begA (s.2 1) c r)) 5 0) 14 0)) := by
  refine Kc.of (ls := [some (.ref o), some (vz c), some (vz r), none]) (by decide +kernel) (Nat.le_of_ble_eq_true rfl) rfl ?_
  refine ev_iconstZ dX3_begins_0 ?_
  refine ev_istore_n dX3_begins_1 (by decide) rfl ?_
  dsimp only [List.set]
  refine ev_for (8645) (fun i h => MX g ad o h0 (uF s 1 (fun j => if j < i then 0 else s.2 1 j)) h) (fun i => [some (.ref o), some (vz c), some (vz r), some (vz (i : Int))]) (0) (by omega) (MX.congr2 hM (by intro j _ _; rfl) (by intro j i hj; (try simp only [uS_1, uA_1, uF_1, uS_2, uA_2a, uF_2a, Nat.reduceEqDiff, reduceIte, Int.reduceToNat, Int.toNat_natCast]) <;> grind (splits := 40) [aN1, aN2, aN3, aN4, aN9, aN12, aN21, aN22])) (by repeat' first | exact rfl | exact trivial | exact vz_eq (by omega) | refine And.intro ?_ ?_) (fun i h hi1 hi2 hX hN => ?_) (fun h hX => ?_)
  · clear hM
    have hM : MX g ad o h0 (uF s 1 (fun j => if j < i then 0 else s.2 1 j)) h := hX
    clear hX
    refine ev_iload_n dX3_begins_2 rfl ?_
    refine ev_sipushZ dX3_begins_3 rfl ?_
    refine ev_icmp_geZ (tgt := 22) dX3_begins_6 (by decide) (by omega) (by omega) (fun c6 => absurd c6 (by omega)) (fun c6 => ?_)
    refine ev_aload_n dX3_begins_9 rfl ?_
    refine mx_getA hM dX3_begins_10 gf_X3_7_X3 rfl ?_
    refine ev_iload_n dX3_begins_13 rfl ?_
    refine ev_iconstZ dX3_begins_14 ?_
    refine mx_iast hM rfl dX3_begins_15 (by omega) (fun h hM => ?_)
    refine ev_iincZ dX3_begins_16 rfl (by decide) rfl ?_
    dsimp only [List.set]
    refine ev_goto (tgt := 2) dX3_begins_19 (by decide) ?_
    exact hN _ _ (by repeat' first | exact rfl | exact trivial | exact vz_eq (by omega) | refine And.intro ?_ ?_) (MX.congr2 hM (by intro j _ _; rfl) (by intro j i hj; (try simp only [uS_1, uA_1, uF_1, uS_2, uA_2a, uF_2a, Nat.reduceEqDiff, reduceIte, Int.reduceToNat, Int.toNat_natCast]) <;> grind (splits := 40) [aN1, aN2, aN3, aN4, aN9, aN12, aN21, aN22]))
  · clear hM
    have hM : MX g ad o h0 (uF s 1 (fun j => if j < 8645 then 0 else s.2 1 j)) h := hX
    clear hX
    refine ev_iload_n dX3_begins_2 rfl ?_
    refine ev_sipushZ dX3_begins_3 rfl ?_
    refine ev_icmp_geZ (tgt := 22) dX3_begins_6 (by decide) (by omega) (by omega) (fun c6 => ?_) (fun c6 => absurd (by omega) c6)
    refine ev_aload_n dX3_begins_22 rfl ?_
    refine mx_getA hM dX3_begins_23 gf_X3_7_X3 rfl ?_
    refine ev_iconstZ dX3_begins_26 ?_
    refine ev_iload_n dX3_begins_27 rfl ?_
    refine mx_iast hM rfl dX3_begins_28 (by omega) (fun h hM => ?_)
    refine ev_aload_n dX3_begins_29 rfl ?_
    refine mx_getA hM dX3_begins_30 gf_X3_7_X3 rfl ?_
    refine ev_iconstZ dX3_begins_33 ?_
    refine ev_iload_n dX3_begins_34 rfl ?_
    refine mx_iast hM rfl dX3_begins_35 (by omega) (fun h hM => ?_)
    refine ev_iconstZ dX3_begins_36 ?_
    refine ev_istore_n dX3_begins_37 (by decide) rfl ?_
    dsimp only [List.set]
    refine ev_for (42) (fun i h => MX g ad o h0 (uF s 1 (fun j => if j = 0 then c else if j = 1 then r else if 2 ≤ j ∧ j < i then -1 else if j < 8645 then 0 else s.2 1 j)) h) (fun i => [some (.ref o), some (vz c), some (vz r), some (vz (i : Int))]) (2) (by omega) (MX.congr2 hM (by intro j _ _; rfl) (by intro j i hj; (try simp only [uS_1, uA_1, uF_1, uS_2, uA_2a, uF_2a, Nat.reduceEqDiff, reduceIte, Int.reduceToNat, Int.toNat_natCast]) <;> grind (splits := 40) [aN1, aN2, aN3, aN4, aN9, aN12, aN21, aN22])) (by repeat' first | exact rfl | exact trivial | exact vz_eq (by omega) | refine And.intro ?_ ?_) (fun i h hi1 hi2 hX hN => ?_) (fun h hX => ?_)
    · clear hM
      have hM : MX g ad o h0 (uF s 1 (fun j => if j = 0 then c else if j = 1 then r else if 2 ≤ j ∧ j < i then -1 else if j < 8645 then 0 else s.2 1 j)) h := hX
      clear hX
      refine ev_iload_n dX3_begins_38 rfl ?_
      refine ev_bipushZ dX3_begins_39 rfl ?_
      refine ev_icmp_geZ (tgt := 57) dX3_begins_41 (by decide) (by omega) (by omega) (fun c41 => absurd c41 (by omega)) (fun c41 => ?_)
      refine ev_aload_n dX3_begins_44 rfl ?_
      refine mx_getA hM dX3_begins_45 gf_X3_7_X3 rfl ?_
      refine ev_iload_n dX3_begins_48 rfl ?_
      refine ev_iconstZ dX3_begins_49 ?_
      refine mx_iast hM rfl dX3_begins_50 (by omega) (fun h hM => ?_)
      refine ev_iincZ dX3_begins_51 rfl (by decide) rfl ?_
      dsimp only [List.set]
      refine ev_goto (tgt := 38) dX3_begins_54 (by decide) ?_
      exact hN _ _ (by repeat' first | exact rfl | exact trivial | exact vz_eq (by omega) | refine And.intro ?_ ?_) (MX.congr2 hM (by intro j _ _; rfl) (by intro j i hj; (try simp only [uS_1, uA_1, uF_1, uS_2, uA_2a, uF_2a, Nat.reduceEqDiff, reduceIte, Int.reduceToNat, Int.toNat_natCast]) <;> grind (splits := 40) [aN1, aN2, aN3, aN4, aN9, aN12, aN21, aN22]))
    · clear hM
      have hM : MX g ad o h0 (uF s 1 (fun j => if j = 0 then c else if j = 1 then r else if 2 ≤ j ∧ j < 42 then -1 else if j < 8645 then 0 else s.2 1 j)) h := hX
      clear hX
      refine ev_iload_n dX3_begins_38 rfl ?_
      refine ev_bipushZ dX3_begins_39 rfl ?_
      refine ev_icmp_geZ (tgt := 57) dX3_begins_41 (by decide) (by omega) (by omega) (fun c41 => ?_) (fun c41 => absurd (by omega) c41)
      refine ev_aload_n dX3_begins_57 rfl ?_
      refine ev_iconstZ dX3_begins_58 ?_
      refine mx_putI hM dX3_begins_59 gf_X3_125_X3 rfl (fun h hM => ?_)
      refine ev_aload_n dX3_begins_62 rfl ?_
      refine ev_iconstZ dX3_begins_63 ?_
      refine mx_putB hM dX3_begins_64 gf_X3_128_X3 rfl (by omega) (fun h hM => ?_)
      refine ev_return dX3_begins_67 rfl ?_
      exact ⟨rfl, MX.congr2 hM (by intro j _ _; rfl) (by intro j i hj; (try simp only [uS_1, uA_1, uF_1, uS_2, uA_2a, uF_2a, Nat.reduceEqDiff, reduceIte, Int.reduceToNat, Int.toNat_natCast, begA]) <;> grind (splits := 40) [aN1, aN2, aN3, aN4, aN9, aN12, aN21, aN22])⟩
set_option maxRecDepth 100000 in
set_option maxHeartbeats 4000000 in
theorem k_frames (hd : 1 ≤ d) (hM : MX g ad o h0 s h) : Kc g mX3_frames d 0 0 [.ref o] h (mR g ad o h0 none (uF s 3 (s.2 1))) := by
  refine Kc.of (ls := [some (.ref o), none]) (by decide +kernel) (Nat.le_of_ble_eq_true rfl) rfl ?_
  refine ev_iconstZ dX3_frames_0 ?_
  refine ev_istore_n dX3_frames_1 (by decide) rfl ?_
  dsimp only [List.set]
  refine ev_for (8645) (fun i h => MX g ad o h0 (uF s 3 (fun j => if j < i then s.2 1 j else s.2 3 j)) h) (fun i => [some (.ref o), some (vz (i : Int))]) (0) (by omega) (MX.congr2 hM (by intro j _ _; rfl) (by intro j i hj; (try simp only [uS_1, uA_1, uF_1, uS_2, uA_2a, uF_2a, Nat.reduceEqDiff, reduceIte, Int.reduceToNat, Int.toNat_natCast]) <;> grind (splits := 40) [aN1, aN2, aN3, aN4, aN9, aN12, aN21, aN22])) (by repeat' first | exact rfl | exact trivial | exact vz_eq (by omega) | refine And.intro ?_ ?_) (fun i h hi1 hi2 hX hN => ?_) (fun h hX => ?_)
  · clear hM
    have hM : MX g ad o h0 (uF s 3 (fun j => if j < i then s.2 1 j else s.2 3 j)) h := hX
    clear hX
    refine ev_iload_n dX3_frames_2 rfl ?_
    refine ev_sipushZ dX3_frames_3 rfl ?_
    refine ev_icmp_geZ (tgt := 27) dX3_frames_6 (by decide) (by omega) (by omega) (fun c6 => absurd c6 (by omega)) (fun c6 => ?_)
    refine ev_aload_n dX3_frames_9 rfl ?_
    refine mx_getA hM dX3_frames_10 gf_X3_16_X3 rfl ?_
    refine ev_iload_n dX3_frames_13 rfl ?_
    refine ev_aload_n dX3_frames_14 rfl ?_
    refine mx_getA hM dX3_frames_15 gf_X3_7_X3 rfl ?_
    refine ev_iload_n dX3_frames_18 rfl ?_
    refine mx_iald hM rfl dX3_frames_19 (by omega) ?_
    try simp only [uS_1, uA_1, uF_1, uS_2, uA_2a, uF_2a, Nat.reduceEqDiff, reduceIte, Int.reduceToNat, Int.toNat_natCast]
    refine mx_iast hM rfl dX3_frames_20 (by omega) (fun h hM => ?_)
    refine ev_iincZ dX3_frames_21 rfl (by decide) rfl ?_
    dsimp only [List.set]
    refine ev_goto (tgt := 2) dX3_frames_24 (by decide) ?_
    exact hN _ _ (by repeat' first | exact rfl | exact trivial | exact vz_eq (by omega) | refine And.intro ?_ ?_) (MX.congr2 hM (by intro j _ _; rfl) (by intro j i hj; (try simp only [uS_1, uA_1, uF_1, uS_2, uA_2a, uF_2a, Nat.reduceEqDiff, reduceIte, Int.reduceToNat, Int.toNat_natCast]) <;> grind (splits := 40) [aN1, aN2, aN3, aN4, aN9, aN12, aN21, aN22]))
  · clear hM
    have hM : MX g ad o h0 (uF s 3 (fun j => if j < 8645 then s.2 1 j else s.2 3 j)) h := hX
    clear hX
    refine ev_iload_n dX3_frames_2 rfl ?_
    refine ev_sipushZ dX3_frames_3 rfl ?_
    refine ev_icmp_geZ (tgt := 27) dX3_frames_6 (by decide) (by omega) (by omega) (fun c6 => ?_) (fun c6 => absurd (by omega) c6)
    refine ev_return dX3_frames_27 rfl ?_
    exact ⟨rfl, MX.congr2 hM (by intro j _ _; rfl) (by intro j i hj; (try simp only [uS_1, uA_1, uF_1, uS_2, uA_2a, uF_2a, Nat.reduceEqDiff, reduceIte, Int.reduceToNat, Int.toNat_natCast]) <;> grind (splits := 40) [aN1, aN2, aN3, aN4, aN9, aN12, aN21, aN22])⟩
set_option maxRecDepth 100000 in
set_option maxHeartbeats 4000000 in
theorem k_backs (hd : 1 ≤ d) (hM : MX g ad o h0 s h) : Kc g mX3_backs d 0 0 [.ref o] h (mR g ad o h0 none (uS (uF s 1 (s.2 3)) 14 0)) := by
  refine Kc.of (ls := [some (.ref o), none]) (by decide +kernel) (Nat.le_of_ble_eq_true rfl) rfl ?_
  refine ev_iconstZ dX3_backs_0 ?_
  refine ev_istore_n dX3_backs_1 (by decide) rfl ?_
  dsimp only [List.set]
  refine ev_for (8645) (fun i h => MX g ad o h0 (uF s 1 (fun j => if j < i then s.2 3 j else s.2 1 j)) h) (fun i => [some (.ref o), some (vz (i : Int))]) (0) (by omega) (MX.congr2 hM (by intro j _ _; rfl) (by intro j i hj; (try simp only [uS_1, uA_1, uF_1, uS_2, uA_2a, uF_2a, Nat.reduceEqDiff, reduceIte, Int.reduceToNat, Int.toNat_natCast]) <;> grind (splits := 40) [aN1, aN2, aN3, aN4, aN9, aN12, aN21, aN22])) (by repeat' first | exact rfl | exact trivial | exact vz_eq (by omega) | refine And.intro ?_ ?_) (fun i h hi1 hi2 hX hN => ?_) (fun h hX => ?_)
  · clear hM
    have hM : MX g ad o h0 (uF s 1 (fun j => if j < i then s.2 3 j else s.2 1 j)) h := hX
    clear hX
    refine ev_iload_n dX3_backs_2 rfl ?_
    refine ev_sipushZ dX3_backs_3 rfl ?_
    refine ev_icmp_geZ (tgt := 27) dX3_backs_6 (by decide) (by omega) (by omega) (fun c6 => absurd c6 (by omega)) (fun c6 => ?_)
    refine ev_aload_n dX3_backs_9 rfl ?_
    refine mx_getA hM dX3_backs_10 gf_X3_7_X3 rfl ?_
    refine ev_iload_n dX3_backs_13 rfl ?_
    refine ev_aload_n dX3_backs_14 rfl ?_
    refine mx_getA hM dX3_backs_15 gf_X3_16_X3 rfl ?_
    refine ev_iload_n dX3_backs_18 rfl ?_
    refine mx_iald hM rfl dX3_backs_19 (by omega) ?_
    try simp only [uS_1, uA_1, uF_1, uS_2, uA_2a, uF_2a, Nat.reduceEqDiff, reduceIte, Int.reduceToNat, Int.toNat_natCast]
    refine mx_iast hM rfl dX3_backs_20 (by omega) (fun h hM => ?_)
    refine ev_iincZ dX3_backs_21 rfl (by decide) rfl ?_
    dsimp only [List.set]
    refine ev_goto (tgt := 2) dX3_backs_24 (by decide) ?_
    exact hN _ _ (by repeat' first | exact rfl | exact trivial | exact vz_eq (by omega) | refine And.intro ?_ ?_) (MX.congr2 hM (by intro j _ _; rfl) (by intro j i hj; (try simp only [uS_1, uA_1, uF_1, uS_2, uA_2a, uF_2a, Nat.reduceEqDiff, reduceIte, Int.reduceToNat, Int.toNat_natCast]) <;> grind (splits := 40) [aN1, aN2, aN3, aN4, aN9, aN12, aN21, aN22]))
  · clear hM
    have hM : MX g ad o h0 (uF s 1 (fun j => if j < 8645 then s.2 3 j else s.2 1 j)) h := hX
    clear hX
    refine ev_iload_n dX3_backs_2 rfl ?_
    refine ev_sipushZ dX3_backs_3 rfl ?_
    refine ev_icmp_geZ (tgt := 27) dX3_backs_6 (by decide) (by omega) (by omega) (fun c6 => ?_) (fun c6 => absurd (by omega) c6)
    refine ev_aload_n dX3_backs_27 rfl ?_
    refine ev_iconstZ dX3_backs_28 ?_
    refine mx_putB hM dX3_backs_29 gf_X3_128_X3 rfl (by omega) (fun h hM => ?_)
    refine ev_return dX3_backs_32 rfl ?_
    exact ⟨rfl, MX.congr2 hM (by intro j _ _; rfl) (by intro j i hj; (try simp only [uS_1, uA_1, uF_1, uS_2, uA_2a, uF_2a, Nat.reduceEqDiff, reduceIte, Int.reduceToNat, Int.toNat_natCast]) <;> grind (splits := 40) [aN1, aN2, aN3, aN4, aN9, aN12, aN21, aN22])⟩
end M1

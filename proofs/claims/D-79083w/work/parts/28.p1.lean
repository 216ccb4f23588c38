/-! the reference: calls (printed by gen) -/
section P1
variable {g : GB} {M : MI} {d c k : Nat} {Q : RS → HM → Prop} {pc : Nat} {ls : List (Option Value)} {st : List Value} {h : HM} {a b : Int} {ad : Nat → Nat} {o : Nat} {h0 : HM} {s : MSt}
/-- what a call gives: code of what is thrown, answer, state -/
abbrev Rs : Type := Int × Int × Sp
/-- the reference answers so -/
def mRs (r : Rs) : Option Value → MSt → Prop := fun v s' => s'.1 0 = r.1 ∧ TI s' r.2.2 ∧ v = some (vz r.2.1)
def takB (f : Nat → Int) (x p : Int) : Nat → Bool
  | 0 => false
  | i + 1 => takB f x p i || (decide (((i : Nat) : Int) ≠ x) && (decide (p ≠ -1) && decide (f i = p)))
def setAt (f : Nat → Int) (x p : Int) : Nat → Int := fun e => if (e : Int) = x then p else f e
def onSt (D : Dn) (p : Int) : Prop := p = -1 ∨ (0 ≤ p ∧ p ≤ D.1.1 * D.1.2 - 1)
def opStage (σ : Sp) (c r : Int) : Rs := if (2 ≤ c ∧ c ≤ 9) ∧ (2 ≤ r ∧ r ≤ 9) then (0, c * r, (((c.toNat, r.toNat), fun _ => -1, fun _ _ => -1, none), [], σ.2.2)) else (1, 0, σ)
def opPlace (σ : Sp) (x p : Int) : Rs := if (0 ≤ x ∧ x ≤ 7) ∧ (p = -1 ∨ (0 ≤ p ∧ p ≤ σ.1.1.1 * σ.1.1.2 - 1)) then (if takB σ.1.2.1 x p 8 then (2, 0, σ) else (0, σ.1.2.1 x.toNat, keepSp σ (σ.1.1, setAt σ.1.2.1 x p, σ.1.2.2))) else (1, 0, σ)
def opForm (σ : Sp) (f x p : Int) : Rs := if (0 ≤ f ∧ f ≤ 3) ∧ (0 ≤ x ∧ x ≤ 7) ∧ (p = -1 ∨ (0 ≤ p ∧ p ≤ σ.1.1.1 * σ.1.1.2 - 1)) then (if takB (σ.1.2.2.1 f.toNat) x p 8 then (2, 0, σ) else (0, σ.1.2.2.1 f.toNat x.toNat, keepSp σ (σ.1.1, σ.1.2.1, (fun f' => if f' = f.toNat then setAt (σ.1.2.2.1 f') x p else σ.1.2.2.1 f'), σ.1.2.2.2))) else (1, 0, σ)
def opAppend (σ : Sp) (x : Int) : Rs := if 32 ≤ x ∧ x ≤ 126 then (if σ.2.2.2.1.1.length = 100 then (2, 0, σ) else (0, σ.2.2.2.1.1.length + 1, (σ.1, σ.2.1, σ.2.2.1, (σ.2.2.2.1.1 ++ [x.toNat], σ.2.2.2.1.2), σ.2.2.2.2))) else (1, 0, σ)
def opErr (σ : Sp) : Rs := if σ.2.2.2.2.2.2 = -1 then (1, 0, σ) else (0, σ.2.2.2.2.2.2, σ)
def opRef (σ : Sp) : Rs := if σ.2.2.2.2.2.1 = -1 then (1, 0, σ) else (0, σ.2.2.2.2.2.1, σ)
def opOutput (σ : Sp) (i : Int) : Rs := if 0 ≤ i ∧ i ≤ σ.2.2.2.1.2.length - 1 then (0, ((σ.2.2.2.1.2.getD i.toNat 0 : Nat) : Int), σ) else (1, 0, σ)
def opReason (σ : Sp) : Rs := (0, σ.2.2.2.2.1, σ)
def opUndo (σ : Sp) : Rs := match σ.2.1.getLast? with
  | none => (1, 0, wReason σ 6)
  | some D => (0, σ.2.1.length - 1, (D, σ.2.1.dropLast, σ.2.2))
def manyN (f : Nat → Int) : Nat → Nat
  | 0 => 0
  | i + 1 => manyN f i + (if f i = -1 then 0 else 1)
def opSnap (σ : Sp) : Rs := (0, (manyN σ.1.2.1 8 : Nat), (σ.1, σ.2.1, some σ.1, σ.2.2.2))
def opRestore (σ : Sp) : Rs := match σ.2.2.1 with
  | none => (1, 0, wReason σ 6)
  | some D => (0, (manyN D.2.1 8 : Nat), (D, [], σ.2.2))
theorem i2c_f : ∀ n : Fin 256, ((zI (n.val : Nat)).toUInt32 % 65536).toInt32 = zI (n.val : Nat) := by decide +kernel
theorem ev_i2cZ {n : Nat} (hd : decode M.2.1 pc = .ok (.i2c, 1)) (hn : n < 256) (kk : Ev g M d c k Q (pc + 1) ls (vz (n : Int) :: st) h) : Ev g M d c k Q pc ls (vz (n : Int) :: st) h := ev_i2c hd (by rw [i2c_f ⟨n, hn⟩]; exact kk)
theorem narrow_c_f : ∀ n : Fin 256, narrow .char (vz ((n.val : Nat) : Int)) = vz ((n.val : Nat) : Int) := by decide +kernel
theorem narrow_c {n : Nat} (hn : n < 256) : narrow .char (vz (n : Int)) = vz (n : Int) := narrow_c_f ⟨n, hn⟩
theorem TI.dn {σ : Sp} (h : TI s σ) : dnAt (s.2 1) σ.1 := h.1
def tkB (D : Dn) (e : Nat) : Bool := decide (D.2.1 e ≠ -1)
set_option maxRecDepth 100000 in
set_option maxHeartbeats 4000000 in
theorem k_takesPart {D : Dn} {e : Nat} (hM : MX g ad o h0 s h) (hD : dnAt (s.2 1) D) (hO : dnOk D) (he : e < 8) (hd : 1 ≤ d) : Kc g mX3_takesPart d 0 0 [.ref o, vz (e : Int)] h (mR g ad o h0 (some (vz (bI (tkB D e)))) s) := by
  refine Kc.of (ls := [some (.ref o), some (vz (e : Int))]) (by decide +kernel) (Nat.le_of_ble_eq_true rfl) rfl ?_
  have hs := hD.2.2.1 e he
  have hb := hO.2.2.2.2.1.1 e he
  have hcr : (D.1.1 : Int) * D.1.2 ≤ 9 * 9 := Int.mul_le_mul (by have := hO.2.1; omega) (by have := hO.2.2.2.1; omega) (by omega) (by omega)
  refine ev_aload_n dX3_takesPart_0 rfl ?_
  refine mx_getA hM dX3_takesPart_1 gf_X3_7_X3 rfl ?_
  refine ev_iconstZ dX3_takesPart_4 ?_
  refine ev_iload_n dX3_takesPart_5 rfl ?_
  refine ev_iaddZ dX3_takesPart_6 ?_
  refine ev_to (b := ((2 + e : Nat) : Int)) (by omega) ?_
  refine mx_iald hM rfl dX3_takesPart_7 (by omega) ?_
  try simp only [uS_1, uA_1, uF_1, uS_2, uA_2a, uF_2a, Nat.reduceEqDiff, reduceIte, Int.reduceToNat, Int.toNat_natCast]
  rw [hs]
  refine ev_iconstZ dX3_takesPart_8 ?_
  refine ev_icmp_eqZ (tgt := 16) dX3_takesPart_9 (by decide) (by omega) (by omega) (fun c9 => ?_) (fun c9 => ?_)
  · refine ev_iconstZ dX3_takesPart_16 ?_
    refine ev_zreturn dX3_takesPart_17 rfl (by decide) ?_
    exact ⟨by unfold tkB; first | (rw [bI_t]; omega) | (rw [bI_f]; omega), hM⟩
  · refine ev_iconstZ dX3_takesPart_12 ?_
    refine ev_goto (tgt := 17) dX3_takesPart_13 (by decide) ?_
    refine ev_zreturn dX3_takesPart_17 rfl (by decide) ?_
    exact ⟨by unfold tkB; first | (rw [bI_t]; omega) | (rw [bI_f]; omega), hM⟩
set_option maxRecDepth 100000 in
set_option maxHeartbeats 4000000 in
theorem k_many {D : Dn} (hM : MX g ad o h0 s h) (hD : dnAt (s.2 1) D) (hO : dnOk D) (hd : 2 ≤ d) : Kc g mX3_many d 0 0 [.ref o] h (mR g ad o h0 (some (vz (manyN D.2.1 8 : Nat))) s) := by
  refine Kc.of (ls := [some (.ref o), none, none]) (by decide +kernel) (Nat.le_of_ble_eq_true rfl) rfl ?_
  refine ev_iconstZ dX3_many_0 ?_
  refine ev_istore_n dX3_many_1 (by decide) rfl ?_
  dsimp only [List.set]
  refine ev_iconstZ dX3_many_2 ?_
  refine ev_istore_n dX3_many_3 (by decide) rfl ?_
  dsimp only [List.set]
  refine ev_for 8 (fun i h => MX g ad o h0 s h) (fun i => [some (.ref o), some (vz ((manyN D.2.1 i : Nat) : Int)), some (vz (i : Int))]) 0 (by omega) hM (by repeat' first | exact rfl | exact trivial | exact vz_eq (by omega) | refine And.intro ?_ ?_) (fun i h hi1 hi2 hX hN => ?_) (fun h hX => ?_)
  · clear hM
    have hM : MX g ad o h0 s h := hX
    refine ev_iload_n dX3_many_4 rfl ?_
    refine ev_bipushZ dX3_many_5 rfl ?_
    refine ev_icmp_geZ (tgt := 32) dX3_many_7 (by decide) (by omega) (by omega) (fun c => absurd c (by omega)) (fun _ => ?_)
    refine ev_iload_n dX3_many_10 rfl ?_
    refine ev_aload_n dX3_many_11 rfl ?_
    refine ev_iload_n dX3_many_12 rfl ?_
    refine mx_call dX3_many_13 cv_X3_336_X3 ce_X3_takesPart hM rfl rfl (k_takesPart (D := D) (e := i) (d := d - 1) hM hD hO hi2 (by omega)) (by omega) (Nat.le_of_ble_eq_true rfl) (fun h hM => ?_)
    refine ev_if_eqB (tgt := 23) dX3_many_16 (by decide) (fun c16 => ?_) (fun c16 => ?_)
    · refine ev_iconstZ dX3_many_23 ?_
      refine ev_iaddZ dX3_many_24 ?_
      refine ev_istore_n dX3_many_25 (by decide) rfl ?_
      dsimp only [List.set]
      refine ev_iincZ dX3_many_26 rfl (by decide) rfl ?_
      dsimp only [List.set]
      refine ev_goto (tgt := 4) dX3_many_29 (by decide) ?_
      have e : manyN D.2.1 (i + 1) = manyN D.2.1 i + (if D.2.1 i = -1 then 0 else 1) := rfl
      unfold tkB at c16
      simp at c16
      first
        | exact hN _ _ (by rw [e, if_pos c16]; exact ⟨rfl, by simp, rfl, trivial⟩) hM
        | exact hN _ _ (by rw [e, if_neg c16]; exact ⟨rfl, by simp, rfl, trivial⟩) hM
    · refine ev_iconstZ dX3_many_19 ?_
      refine ev_goto (tgt := 24) dX3_many_20 (by decide) ?_
      refine ev_iaddZ dX3_many_24 ?_
      refine ev_istore_n dX3_many_25 (by decide) rfl ?_
      dsimp only [List.set]
      refine ev_iincZ dX3_many_26 rfl (by decide) rfl ?_
      dsimp only [List.set]
      refine ev_goto (tgt := 4) dX3_many_29 (by decide) ?_
      have e : manyN D.2.1 (i + 1) = manyN D.2.1 i + (if D.2.1 i = -1 then 0 else 1) := rfl
      unfold tkB at c16
      simp at c16
      first
        | exact hN _ _ (by rw [e, if_pos c16]; exact ⟨rfl, by simp, rfl, trivial⟩) hM
        | exact hN _ _ (by rw [e, if_neg c16]; exact ⟨rfl, by simp, rfl, trivial⟩) hM
  · clear hM
    have hM : MX g ad o h0 s h := hX
    refine ev_iload_n dX3_many_4 rfl ?_
    refine ev_bipushZ dX3_many_5 rfl ?_
    refine ev_icmp_geZ (tgt := 32) dX3_many_7 (by decide) (by omega) (by omega) (fun _ => ?_) (fun c => absurd (by omega) c)
    refine ev_iload_n dX3_many_32 rfl ?_
    refine ev_ireturn dX3_many_33 rfl ?_
    exact ⟨rfl, hM⟩
end P1

/-! the reference's object: scalars by their field's number, arrays by theirs (printed by gen/mkmx.py) -/
section MXS
/-- which fields are arrays: type and length -/
def aL : Nat → Option (Nat × Nat) := fun k => match k with
  | 1 => some (0, 8645)
  | 2 => some (0, 8645)
  | 3 => some (0, 8645)
  | 4 => some (0, 69160)
  | 9 => some (0, 100)
  | 12 => some (0, 12000)
  | 21 => some (0, 800)
  | 22 => some (0, 100)
  | 24 => some (0, 80)
  | 25 => some (0, 80)
  | 26 => some (0, 80)
  | 27 => some (0, 80)
  | 28 => some (0, 80)
  | 29 => some (0, 80)
  | 30 => some (0, 80)
  | 31 => some (0, 80)
  | 32 => some (1, 80)
  | 33 => some (0, 64000)
  | 34 => some (0, 8000)
  | 38 => some (0, 12)
  | 39 => some (0, 12)
  | 40 => some (0, 800)
  | 41 => some (0, 800)
  | 47 => some (0, 168)
  | 48 => some (0, 8)
  | 49 => some (0, 160)
  | 50 => some (1, 8)
  | 51 => some (1, 1701)
  | 52 => some (1, 1701)
  | _ => none
/-- the reference's state: what its scalars hold, what its arrays hold -/
abbrev MSt : Type := (Nat → Int) × (Nat → Nat → Int)
def uS (s : MSt) (k : Nat) (x : Int) : MSt := (uz s.1 k x, s.2)
def uA (s : MSt) (k i : Nat) (x : Int) : MSt := (s.1, uz s.2 k (uz (s.2 k) i x))
def mv (ad : Nat → Nat) (s : MSt) (k : Nat) : Value := match aL k with
  | some _ => .ref (ad k)
  | none => vz (s.1 k)
def mFs (ad : Nat → Nat) (s : MSt) : List Value := (List.range 53).map (mv ad s)
def mA (ad : Nat → Nat) (o q : Nat) : Prop := q = o ∨ ∃ (k : Nat) (p : Nat × Nat), aL k = some p ∧ q = ad k
def MG (g : GB) (ad : Nat → Nat) (o : Nat) : Prop := gB g ≤ o ∧ (∀ (k : Nat) (p : Nat × Nat), aL k = some p → gB g ≤ ad k ∧ ad k ≠ o) ∧ ∀ (k k' : Nat) (p p' : Nat × Nat), aL k = some p → aL k' = some p' → ad k = ad k' → k = k'
/-- the heap h holds the state s of the reference at o, its arrays at ad; all else is as in h0 -/
def MX (g : GB) (ad : Nat → Nat) (o : Nat) (h0 : HM) (s : MSt) (h : HM) : Prop := MG g ad o ∧ h o = some (.inr (2, mFs ad s)) ∧ (∀ (k : Nat) (p : Nat × Nat), aL k = some p → ∃ f : Nat → Int32, h (ad k) = some (.inl (p.1, (p.2, .inl f))) ∧ ∀ j, j < p.2 → f j = zI (s.2 k j)) ∧ ∀ q : Nat, ¬ mA ad o q → h q = h0 q
theorem mFs_get (ad : Nat → Nat) (s : MSt) {k : Nat} (hk : k < 53) : (mFs ad s)[k]? = some (mv ad s k) := by simp [mFs, hk]
theorem mFs_set (ad : Nat → Nat) (s : MSt) {k : Nat} (hk : aL k = none) (x : Int) : (mFs ad s).set k (vz x) = mFs ad (uS s k x) := by
  apply List.ext_getElem?
  intro i
  unfold mFs
  rw [List.getElem?_set, List.length_map, List.length_range, List.getElem?_map, List.getElem?_map]
  by_cases hi : i < 53
  · rw [List.getElem?_range hi]
    by_cases hki : k = i
    · subst hki
      simp [hi, mv, hk, uS, uz]
    · rw [if_neg hki]
      simp only [Option.map_some, mv]
      cases aL i with
      | some p => rfl
      | none => simp [uS, uz, Ne.symm hki]
  · have hr : (List.range 53)[i]? = none := List.getElem?_eq_none (by simp; omega)
    rw [hr]
    by_cases hki : k = i
    · rw [if_pos hki]; simp [show ¬ k < 53 by omega]
    · rw [if_neg hki]; rfl
theorem MX.putS {g : GB} {ad : Nat → Nat} {o : Nat} {h0 : HM} {s : MSt} {h : HM} (hM : MX g ad o h0 s h) {k : Nat} (hk : aL k = none) (x : Int) : MX g ad o h0 (uS s k x) (hs h o (.inr (2, (mFs ad s).set k (vz x)))) := by
  obtain ⟨h1, h2, h3, h4⟩ := hM
  refine ⟨h1, by unfold hs; rw [if_pos rfl, mFs_set ad s hk], fun j p hj => ?_, fun q hq => ?_⟩
  · unfold hs
    rw [if_neg (h1.2.1 j p hj).2]
    exact h3 j p hj
  · unfold hs
    rw [if_neg (fun e => hq (Or.inl e))]
    exact h4 q hq
theorem MX.putA {g : GB} {ad : Nat → Nat} {o : Nat} {h0 : HM} {s : MSt} {h : HM} (hM : MX g ad o h0 s h) {k t n : Nat} (hk : aL k = some (t, n)) {f : Nat → Int32} (hf : ∀ j, j < n → f j = zI (s.2 k j)) (i : Nat) (x : Int) : MX g ad o h0 (uA s k i x) (hs h (ad k) (.inl (t, (n, .inl (upd f i (zI x)))))) := by
  obtain ⟨h1, h2, h3, h4⟩ := hM
  refine ⟨h1, ?_, fun j p hj => ?_, fun q hq => ?_⟩
  · unfold hs
    rw [if_neg (fun e => (h1.2.1 k _ hk).2 e.symm)]
    exact h2
  · unfold hs
    by_cases hkj : j = k
    · subst hkj
      rw [if_pos rfl]
      cases hk.symm.trans hj
      refine ⟨_, rfl, fun j' hj' => ?_⟩
      show upd f i (zI x) j' = zI ((uA s j i x).2 j j')
      simp only [uA, uz, upd, if_true]
      by_cases e : j' = i
      · rw [if_pos e, if_pos e]
      · rw [if_neg e, if_neg e]
        exact hf j' hj'
    · rw [if_neg (fun e => hkj (h1.2.2 j k p _ hj hk e))]
      obtain ⟨f', q1, q2⟩ := h3 j p hj
      refine ⟨f', q1, fun j' hj' => ?_⟩
      rw [q2 j' hj']
      simp [uA, uz, hkj]
  · unfold hs
    rw [if_neg (fun e => hq (Or.inr ⟨k, _, hk, e⟩))]
    exact h4 q hq
/-- only what lies within counts -/
theorem MX.congr {g : GB} {ad : Nat → Nat} {o : Nat} {h0 : HM} {s s' : MSt} {h : HM} (hM : MX g ad o h0 s h) (h1 : ∀ k, k < 53 → aL k = none → s'.1 k = s.1 k) (h2 : ∀ (k : Nat) (p : Nat × Nat), aL k = some p → ∀ j, j < p.2 → s'.2 k j = s.2 k j) : MX g ad o h0 s' h := by
  obtain ⟨q1, q2, q3, q4⟩ := hM
  refine ⟨q1, ?_, fun k p hk => ?_, q4⟩
  · rw [q2]
    have e : mFs ad s = mFs ad s' := by
      apply List.map_congr_left
      intro k hk
      have hk' : k < 53 := by simpa using hk
      simp only [mv]
      cases hA : aL k with
      | some p => rfl
      | none => simp only [h1 k hk' hA]
    rw [e]
  · obtain ⟨f, r1, r2⟩ := q3 k p hk
    exact ⟨f, r1, fun j hj => by rw [r2 j hj, h2 k p hk j hj]⟩
theorem uS_1 (s : MSt) (k : Nat) (x : Int) (j : Nat) : (uS s k x).1 j = if j = k then x else s.1 j := rfl
theorem uS_2 (s : MSt) (k : Nat) (x : Int) : (uS s k x).2 = s.2 := rfl
theorem uA_1 (s : MSt) (k i : Nat) (x : Int) : (uA s k i x).1 = s.1 := rfl
theorem uA_2 (s : MSt) (k i : Nat) (x : Int) (j : Nat) : (uA s k i x).2 j = if j = k then uz (s.2 k) i x else s.2 j := rfl
variable {g : GB} {M : MI} {d c k : Nat} {Q : RS → HM → Prop} {pc : Nat} {ls : List (Option Value)} {st : List Value} {h : HM} {a b : Int} {ad : Nat → Nat} {o : Nat} {h0 : HM} {s : MSt}
theorem mx_getI {idx f : Nat} {fin dcl : Bool} {ty : FieldType} (hM : MX g ad o h0 s h) (hd : decode M.2.1 pc = .ok (.getfield idx, 3)) (hg : GF M.1.cls idx 2 f fin dcl ty) (hf : (aL f).isNone && decide (f < 53) = true) (kk : Ev g M d c k Q (pc + 3) ls (vz (s.1 f) :: st) h) : Ev g M d c k Q pc ls (.ref o :: st) h := by
  simp only [Bool.and_eq_true, Option.isNone_iff_eq_none, decide_eq_true_eq] at hf
  exact ev_getf hd hg hM.2.1 (by rw [mFs_get ad s hf.2, mv, hf.1]) kk
theorem mx_getA {idx f : Nat} {fin dcl : Bool} {ty : FieldType} (hM : MX g ad o h0 s h) (hd : decode M.2.1 pc = .ok (.getfield idx, 3)) (hg : GF M.1.cls idx 2 f fin dcl ty) (hf : (aL f).isSome && decide (f < 53) = true) (kk : Ev g M d c k Q (pc + 3) ls (.ref (ad f) :: st) h) : Ev g M d c k Q pc ls (.ref o :: st) h := by
  simp only [Bool.and_eq_true, Option.isSome_iff_exists, decide_eq_true_eq] at hf
  obtain ⟨⟨p, hp⟩, h53⟩ := hf
  exact ev_getf hd hg hM.2.1 (by rw [mFs_get ad s h53, mv, hp]) kk
theorem mx_putI {idx f : Nat} {dcl : Bool} (hM : MX g ad o h0 s h) (hd : decode M.2.1 pc = .ok (.putfield idx, 3)) (hg : GF M.1.cls idx 2 f false dcl .int) (hf : (aL f).isNone && decide (f < 53) = true) (kk : ∀ h' : HM, MX g ad o h0 (uS s f a) h' → Ev g M d c k Q (pc + 3) ls st h') : Ev g M d c k Q pc ls (vz a :: .ref o :: st) h := by
  simp only [Bool.and_eq_true, Option.isNone_iff_eq_none, decide_eq_true_eq] at hf
  exact ev_putf hd hg hM.2.1 hM.1.1 (Or.inl rfl) rfl rfl (by simp [mFs, hf.2]) (kk _ (hM.putS hf.1 a))
theorem narrow_zb {x : Int} (hx : x = 0 ∨ x = 1) : narrow .boolean (vz x) = vz x := by rcases hx with rfl | rfl <;> decide
theorem fits_zb {x : Int} (hx : x = 0 ∨ x = 1) : fits .boolean (vz x) = true := by rcases hx with rfl | rfl <;> decide
theorem mx_putB {idx f : Nat} {dcl : Bool} (hM : MX g ad o h0 s h) (hd : decode M.2.1 pc = .ok (.putfield idx, 3)) (hg : GF M.1.cls idx 2 f false dcl .boolean) (hf : (aL f).isNone && decide (f < 53) = true) (hb : a = 0 ∨ a = 1) (kk : ∀ h' : HM, MX g ad o h0 (uS s f a) h' → Ev g M d c k Q (pc + 3) ls st h') : Ev g M d c k Q pc ls (vz a :: .ref o :: st) h := by
  simp only [Bool.and_eq_true, Option.isNone_iff_eq_none, decide_eq_true_eq] at hf
  exact ev_putf hd hg hM.2.1 hM.1.1 (Or.inl rfl) (narrow_zb hb) (fits_zb hb) (by simp [mFs, hf.2]) (kk _ (hM.putS hf.1 a))
theorem mx_iald {f n : Nat} (hM : MX g ad o h0 s h) (hf : aL f = some (0, n)) (hd : decode M.2.1 pc = .ok (.iaload, 1)) (h1 : 0 ≤ a ∧ a < n ∧ n < 100000) (kk : Ev g M d c k Q (pc + 1) ls (vz (s.2 f a.toNat) :: st) h) : Ev g M d c k Q pc ls (vz a :: .ref (ad f) :: st) h := by
  obtain ⟨F, q1, q2⟩ := hM.2.2.1 f _ hf
  exact ev_iald hd q1 (zI_in h1.1 h1.2.1 (by omega)) (by rw [zI_clamp h1.1 (by omega), q2 a.toNat (by show a.toNat < n; omega)]; exact kk)
theorem mx_zald {f n : Nat} (hM : MX g ad o h0 s h) (hf : aL f = some (1, n)) (hd : decode M.2.1 pc = .ok (.baload, 1)) (h1 : 0 ≤ a ∧ a < n ∧ n < 100000) (kk : Ev g M d c k Q (pc + 1) ls (vz (s.2 f a.toNat) :: st) h) : Ev g M d c k Q pc ls (vz a :: .ref (ad f) :: st) h := by
  obtain ⟨F, q1, q2⟩ := hM.2.2.1 f _ hf
  exact ev_zald hd q1 (zI_in h1.1 h1.2.1 (by omega)) (by rw [zI_clamp h1.1 (by omega), q2 a.toNat (by show a.toNat < n; omega)]; exact kk)
theorem mx_iast {f n : Nat} (hM : MX g ad o h0 s h) (hf : aL f = some (0, n)) (hd : decode M.2.1 pc = .ok (.iastore, 1)) (h1 : 0 ≤ a ∧ a < n ∧ n < 100000) (kk : ∀ h' : HM, MX g ad o h0 (uA s f a.toNat b) h' → Ev g M d c k Q (pc + 1) ls st h') : Ev g M d c k Q pc ls (vz b :: vz a :: .ref (ad f) :: st) h := by
  obtain ⟨F, q1, q2⟩ := hM.2.2.1 f _ hf
  exact ev_iast hd q1 (hM.1.2.1 f _ hf).1 (zI_in h1.1 h1.2.1 (by omega)) (by rw [zI_clamp h1.1 (by omega)]; exact kk _ (hM.putA hf q2 _ _))
theorem mx_zast {f n : Nat} (hM : MX g ad o h0 s h) (hf : aL f = some (1, n)) (hd : decode M.2.1 pc = .ok (.bastore, 1)) (h1 : 0 ≤ a ∧ a < n ∧ n < 100000) (hb : b = 0 ∨ b = 1) (kk : ∀ h' : HM, MX g ad o h0 (uA s f a.toNat b) h' → Ev g M d c k Q (pc + 1) ls st h') : Ev g M d c k Q pc ls (vz b :: vz a :: .ref (ad f) :: st) h := by
  obtain ⟨F, q1, q2⟩ := hM.2.2.1 f _ hf
  exact ev_zast hd q1 (hM.1.2.1 f _ hf).1 (zI_in h1.1 h1.2.1 (by omega)) (by rw [zI_clamp h1.1 (by omega), vp_nar_z hb]; exact kk _ (hM.putA hf q2 _ _))
/-- a method of the reference called on itself: answer v, state s' -/
abbrev mR (g : GB) (ad : Nat → Nat) (o : Nat) (h0 : HM) (v : Option Value) (s' : MSt) : RS → HM → Prop := fun r h' => r = .inl v ∧ MX g ad o h0 s' h'
theorem mx_call {i : Instr} {len n d' : Nat} {My : MI} {as rest : List Value} {v : Value} {s' : MSt} (hd : decode M.2.1 pc = .ok (i, len)) (hV : EntV g M.1.cls i len RX3 My.1 n) (hC : Cee My) (hM : MX g ad o h0 s h) (hn : as.length = n) (hst : st = as.reverse ++ .ref o :: rest) (hK : Kc g My d' 0 0 (.ref o :: as) h (mR g ad o h0 (some v) s')) (hdd : d' + 1 ≤ d) (hW8 : (rest.map fun v => v.category).sum ≤ 8)
    (kk : ∀ h' : HM, MX g ad o h0 s' h' → Ev g M d c k Q (pc + len) ls (v :: rest) h') : Ev g M d c k Q pc ls st h :=
  ev_callV hd hV hC hM.2.1 (ci := 2) rfl hn hst hK hdd (Nat.zero_le _) (Nat.zero_le _) hW8 (fun v' h' q => by obtain ⟨q1, q2⟩ := q; cases q1; exact kk h' q2) (fun E q h' r => by cases r.1)
theorem mx_callv {i : Instr} {len n d' : Nat} {My : MI} {as rest : List Value} {s' : MSt} (hd : decode M.2.1 pc = .ok (i, len)) (hV : EntV g M.1.cls i len RX3 My.1 n) (hC : Cee My) (hM : MX g ad o h0 s h) (hn : as.length = n) (hst : st = as.reverse ++ .ref o :: rest) (hK : Kc g My d' 0 0 (.ref o :: as) h (mR g ad o h0 none s')) (hdd : d' + 1 ≤ d) (hW8 : (rest.map fun v => v.category).sum ≤ 8)
    (kk : ∀ h' : HM, MX g ad o h0 s' h' → Ev g M d c k Q (pc + len) ls rest h') : Ev g M d c k Q pc ls st h :=
  ev_callV hd hV hC hM.2.1 (ci := 2) rfl hn hst hK hdd (Nat.zero_le _) (Nat.zero_le _) hW8 (fun v' h' q => by obtain ⟨q1, q2⟩ := q; cases q1; exact kk h' q2) (fun E q h' r => by cases r.1)
/-- .. with an end that isn't said exactly -/
abbrev mP (g : GB) (ad : Nat → Nat) (o : Nat) (h0 : HM) (P : Option Value → MSt → Prop) : RS → HM → Prop := fun r h' => ∃ (v : Option Value) (s' : MSt), r = .inl v ∧ P v s' ∧ MX g ad o h0 s' h'
theorem mx_callP {i : Instr} {len n d' : Nat} {My : MI} {as rest : List Value} {P : Option Value → MSt → Prop} (hd : decode M.2.1 pc = .ok (i, len)) (hV : EntV g M.1.cls i len RX3 My.1 n) (hC : Cee My) (hM : MX g ad o h0 s h) (hn : as.length = n) (hst : st = as.reverse ++ .ref o :: rest) (hK : Kc g My d' 0 0 (.ref o :: as) h (mP g ad o h0 P)) (hdd : d' + 1 ≤ d) (hW8 : (rest.map fun v => v.category).sum ≤ 8)
    (kk : ∀ (v : Option Value) (s' : MSt) (h' : HM), P v s' → MX g ad o h0 s' h' → Ev g M d c k Q (pc + len) ls (v.toList ++ rest) h') : Ev g M d c k Q pc ls st h :=
  ev_callV hd hV hC hM.2.1 (ci := 2) rfl hn hst hK hdd (Nat.zero_le _) (Nat.zero_le _) hW8 (fun v' h' q => by obtain ⟨v, s', q1, q2, q3⟩ := q; cases q1; exact kk v' s' h' q2 q3) (fun E q h' r => by obtain ⟨v, s', q1, -⟩ := r; cases q1)
/-- a static method that leaves the heap: answer v -/
abbrev sR (v : Option Value) (h : HM) : RS → HM → Prop := fun r h' => r = .inl v ∧ h' = h
theorem ev_callSE {i : Instr} {len n d' : Nat} {My : MI} {as rest : List Value} {v : Value} (hd : decode M.2.1 pc = .ok (i, len)) (hS : EntS g M.1.cls i len My.1 n) (hC : Cee My) (hn : as.length = n) (hst : st = as.reverse ++ rest) (hK : Kc g My d' 0 0 as h (sR (some v) h)) (hdd : d' + 1 ≤ d) (hW8 : (rest.map fun v => v.category).sum ≤ 8)
    (kk : Ev g M d c k Q (pc + len) ls (v :: rest) h) : Ev g M d c k Q pc ls st h :=
  ev_callS hd hS hC hn hst hK hdd (Nat.zero_le _) (Nat.zero_le _) hW8 (fun v' h' q => by obtain ⟨q1, q2⟩ := q; cases q1; subst q2; exact kk) (fun E q h' r => by cases r.1)
end MXS

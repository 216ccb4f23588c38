/-! the reference: exchange (printed by gen) -/
section P9
variable {g : GB} {M : MI} {d c k : Nat} {Q : RS → HM → Prop} {pc : Nat} {ls : List (Option Value)} {st : List Value} {h : HM} {a b : Int} {ad : Nat → Nat} {o : Nat} {h0 : HM} {s : MSt}
def opExch (σ : Sp) (x y : Int) : Rs := if (0 ≤ x ∧ x ≤ 7) ∧ (0 ≤ y ∧ y ≤ 7) then withP σ 2 (fun l => if x = y ∨ cntL x.toNat y.toNat l l.length = 0 then (2, 0, wReason σ 6) else (0, (cntL x.toNat y.toNat l l.length : Nat), keepSp σ (wPiece σ.1 (exL x.toNat y.toNat l)))) else (1, 0, σ)
def exI (a b : Nat) (x : Int) : Int := if x = a then b else if x = b then a else x
theorem exI_N (a b x : Nat) : exI a b (x : Int) = (exN a b x : Nat) := by
  unfold exI exN
  by_cases h1 : x = a
  · rw [if_pos (by omega), if_pos h1]
  · rw [if_neg (by omega), if_neg h1]
    by_cases h2 : x = b
    · rw [if_pos (by omega), if_pos h2]
    · rw [if_neg (by omega), if_neg h2]
/-- the dancers' places that were gone through -/
def Vis (B : Nat → Int) (l : List Nd) (i k j : Nat) : Prop := ∃ (i' k' : Nat) (nd : Nd), l[i']? = some nd ∧ nd.1 ≤ 1 ∧ k' < nd.2.2.2.1.length ∧ (i' < i ∨ (i' = i ∧ k' < k)) ∧ (j : Int) = 6645 + (B (45 + 6 * i' + 3) + k')
def exR (a b : Nat) (B : Nat → Int) (l : List Nd) (i k : Nat) (A : Nat → Int) : Prop := (∀ j, Vis B l i k j → A j = exI a b (B j)) ∧ ∀ j, ¬ Vis B l i k j → A j = B j
theorem Vis_next {B : Nat → Int} {l : List Nd} {i : Nat} {nd : Nd} (hl : l[i]? = some nd) (j : Nat) : Vis B l (i + 1) 0 j ↔ Vis B l i (if nd.1 ≤ 1 then nd.2.2.2.1.length else 0) j := by
  constructor
  · rintro ⟨i', k', nd', h1, h2, h3, h4, h5⟩
    refine ⟨i', k', nd', h1, h2, h3, ?_, h5⟩
    by_cases c : i' = i
    · subst c
      rw [hl] at h1
      cases h1
      rw [if_pos h2]
      exact Or.inr ⟨rfl, h3⟩
    · omega
  · rintro ⟨i', k', nd', h1, h2, h3, h4, h5⟩
    exact ⟨i', k', nd', h1, h2, h3, by omega, h5⟩
theorem exR_next {a b : Nat} {B A : Nat → Int} {l : List Nd} {i : Nat} {nd : Nd} (hl : l[i]? = some nd) (h : exR a b B l i (if nd.1 ≤ 1 then nd.2.2.2.1.length else 0) A) : exR a b B l (i + 1) 0 A := ⟨fun j hj => h.1 j ((Vis_next hl j).mp hj), fun j hj => h.2 j (fun q => hj ((Vis_next hl j).mpr q))⟩
theorem exR_0 {a b : Nat} {B : Nat → Int} {l : List Nd} : exR a b B l 0 0 B := ⟨fun j ⟨i', k', nd', h1, h2, h3, h4, h5⟩ => by omega, fun _ _ => rfl⟩
theorem dt_lt {B : Nat → Int} {l : List Nd} (h : dtAt B l) {i j : Nat} {nd nd' : Nd} (hij : i < j) (h1 : l[i]? = some nd) (h2 : l[j]? = some nd') (hk : nd.1 ≤ 1) (hk' : nd'.1 ≤ 1) : B (45 + 6 * i + 3) + nd.2.2.2.1.length + nd.2.2.2.2.length ≤ B (45 + 6 * j + 3) := by
  obtain ⟨m, m1, m2, m3, m4⟩ := h
  exact m4 i j nd nd' hij h1 h2 hk hk'
theorem Vis_not {B : Nat → Int} {l : List Nd} (h : dtAt B l) {i k : Nat} {nd : Nd} (hl : l[i]? = some nd) (hk1 : nd.1 ≤ 1) {p : Nat} (hp : B (45 + 6 * i + 3) = p) : ¬ Vis B l i k (6645 + (p + k)) := by
  rintro ⟨i', k', nd', h1, h2, h3, h4, h5⟩
  rcases h4 with h4 | ⟨rfl, h4⟩
  · have := dt_lt h h4 h1 hl h2 hk1
    omega
  · rw [hp] at h5
    omega
theorem exR_step {a b : Nat} {B A : Nat → Int} {l : List Nd} (hd : dtAt B l) {i k : Nat} {nd : Nd} (hl : l[i]? = some nd) (hk1 : nd.1 ≤ 1) {p x : Nat} (hp : B (45 + 6 * i + 3) = p) (hk : k < nd.2.2.2.1.length) (hx : B (6645 + (p + k)) = x) (h : exR a b B l i k A) : exR a b B l i (k + 1) (uz A (6645 + (p + k)) ((exN a b x : Nat) : Int)) := by
  refine ⟨fun j hj => ?_, fun j hj => ?_⟩
  · unfold uz
    by_cases c : j = 6645 + (p + k)
    · rw [if_pos c, c, hx, exI_N]
    · rw [if_neg c]
      refine h.1 j ?_
      obtain ⟨i', k', nd', h1, h2, h3, h4, h5⟩ := hj
      refine ⟨i', k', nd', h1, h2, h3, ?_, h5⟩
      rcases h4 with h4 | ⟨rfl, h4⟩
      · exact Or.inl h4
      · rw [hp] at h5
        exact Or.inr ⟨rfl, by omega⟩
  · unfold uz
    rw [if_neg (fun c => hj ⟨i, k, nd, hl, hk1, hk, Or.inr ⟨rfl, by omega⟩, by rw [hp, c]; omega⟩)]
    exact h.2 j (fun ⟨i', k', nd', h1, h2, h3, h4, h5⟩ => hj ⟨i', k', nd', h1, h2, h3, by omega, h5⟩)
theorem cnt0D {a b : Nat} {ds : List Nat} : ∀ {n : Nat}, cntD a b ds n = 0 → ∀ k, k < n → exN a b (ds.getD k 0) = ds.getD k 0 := by
  intro n
  induction n with
  | zero => intro _ k hk; omega
  | succ n ih =>
    intro h k hk
    have h' : cntD a b ds n + (if ds.getD n 0 = a ∨ ds.getD n 0 = b then 1 else 0) = 0 := h
    by_cases c : k = n
    · subst c
      by_cases q : ds.getD k 0 = a ∨ ds.getD k 0 = b
      · rw [if_pos q] at h'; omega
      · unfold exN
        rw [if_neg (fun r => q (Or.inl r)), if_neg (fun r => q (Or.inr r))]
    · exact ih (by omega) k (by omega)
theorem cnt0L {a b : Nat} {l : List Nd} : ∀ {n : Nat}, cntL a b l n = 0 → ∀ i, i < n → (l.getD i noNd).1 ≤ 1 → cntD a b (l.getD i noNd).2.2.2.1 (l.getD i noNd).2.2.2.1.length = 0 := by
  intro n
  induction n with
  | zero => intro _ i hi; omega
  | succ n ih =>
    intro h i hi hk
    have h' : cntL a b l n + (if (l.getD n noNd).1 ≤ 1 then cntD a b (l.getD n noNd).2.2.2.1 (l.getD n noNd).2.2.2.1.length else 0) = 0 := h
    by_cases c : i = n
    · subst c
      rw [if_pos hk] at h'
      omega
    · exact ih (by omega) i (by omega) hk
theorem exR_same {a b : Nat} {B A : Nat → Int} {l : List Nd} (hp : pcAt B l) (h : exR a b B l l.length 0 A) (h0 : cntL a b l l.length = 0) : ∀ j, A j = B j := by
  intro j
  rcases Classical.em (Vis B l l.length 0 j) with c | c
  · rw [h.1 j c]
    obtain ⟨i', k', nd', h1, h2, h3, h4, h5⟩ := c
    obtain ⟨p, p1, p2, p3, p4, p5, p6⟩ := (hp.2.2 i' nd' h1).2.2.2 h2
    have ej : j = 6645 + (p + k') := by rw [p1] at h5; omega
    rw [ej, p5 k' h3, exI_N]
    have eg : l.getD i' noNd = nd' := by rw [List.getD_eq_getElem?_getD, h1]; rfl
    have hc := cnt0L h0 i' (lt_of_getE h1) (by rw [eg]; exact h2)
    rw [eg] at hc
    rw [cnt0D hc k' h3]
  · exact h.2 j c
theorem dn_ex {a b : Nat} {B A : Nat → Int} {D : Dn} {l : List Nd} (hD : dnAt B D) (hpc : D.2.2.2 = some l) (h : exR a b B l l.length 0 A) (hm : (mean (exL a b l)).1.1 = (mean l).1.1) : dnAt A (wPiece D (exL a b l)) := by
  obtain ⟨a1, a2, a3⟩ := dn_some hD hpc
  obtain ⟨h1, h2, h3, h4, -⟩ := hD
  have pos : ∀ (i : Nat) (nd : Nd), l[i]? = some nd → nd.1 ≤ 1 → ∃ p : Nat, B (45 + 6 * i + 3) = p := fun i nd hi hk => by
    obtain ⟨p, p1, -⟩ := (a2.2.2 i nd hi).2.2.2 hk
    exact ⟨p, p1⟩
  have lo : ∀ j, j < 6645 → A j = B j := fun j hj => h.2 j (fun ⟨i', k', nd', q1, q2, q3, q4, q5⟩ => by
    obtain ⟨p, hp⟩ := pos i' nd' q1 q2
    rw [hp] at q5
    omega)
  refine ⟨(lo 0 (by omega)).trans h1, (lo 1 (by omega)).trans h2, fun e he => (lo _ (by omega)).trans (h3 e he), fun f e hf he => (lo _ (by omega)).trans (h4 f e hf he), (lo 42 (by omega)).trans a1, ⟨?_, ?_, fun i nd hi => ?_⟩, ?_⟩
  · rw [lo 43 (by omega), a2.1]; unfold exL; rw [List.length_map]
  · unfold exL; rw [List.length_map]; exact a2.2.1
  · unfold exL at hi
    rw [List.getElem?_map] at hi
    cases hn : l[i]? with
    | none => rw [hn] at hi; cases hi
    | some nd0 =>
      rw [hn] at hi
      cases hi
      have hil := lt_of_getE hn
      have hl1 := a2.2.1
      obtain ⟨q1, q2, q3, q4⟩ := a2.2.2 i nd0 hn
      refine ⟨by rw [lo _ (by omega), q1, exNd_1], by rw [lo _ (by omega), q2, exNd_2], by rw [lo _ (by omega), q3, exNd_3], fun hk => ?_⟩
      rw [exNd_1] at hk
      obtain ⟨p, p1, p2, p3, p4, p5, p6⟩ := q4 hk
      rw [exNd_len, exNd_5]
      refine ⟨p, by rw [lo _ (by omega), p1], by rw [lo _ (by omega), p2], by rw [lo _ (by omega), p3], p4, fun k hk' => ?_, fun k hk' => ?_⟩
      · rw [h.1 _ ⟨i, k, nd0, hn, hk, hk', Or.inl hil, by rw [p1]; omega⟩, p5 k hk', exI_N, exNd_get hk hk']
      · rw [h.2 _ (fun ⟨i', k', nd', r1, r2, r3, r4, r5⟩ => by
          obtain ⟨p', hp'⟩ := pos i' nd' r1 r2
          rcases Nat.lt_trichotomy i' i with c | c | c
          · have := dt_lt a3 c r1 hn r2 hk
            rw [p1, hp'] at this
            rw [hp'] at r5
            omega
          · subst c
            rw [hn] at r1
            cases r1
            rw [p1] at r5
            omega
          · have := dt_lt a3 c hn r1 hk r2
            rw [p1, hp'] at this
            rw [hp'] at r5
            omega)]
        exact p6 k hk'
  · obtain ⟨m, m1, m2, m3, m4⟩ := a3
    have get : ∀ (i : Nat) (nd : Nd), (exL a b l)[i]? = some nd → ∃ nd0, l[i]? = some nd0 ∧ nd = exNd a b nd0 := fun i nd hi => by
      unfold exL at hi
      rw [List.getElem?_map] at hi
      cases hn : l[i]? with
      | none => rw [hn] at hi; cases hi
      | some nd0 => rw [hn] at hi; cases hi; exact ⟨nd0, rfl, rfl⟩
    have hl1 := a2.2.1
    refine ⟨m, by rw [lo 44 (by omega), m1], by rw [hm]; exact m2, fun i nd hi hk => ?_, fun i j nd nd' hij hi hj hk hk' => ?_⟩
    · obtain ⟨nd0, e1, rfl⟩ := get i nd hi
      have := lt_of_getE e1
      rw [exNd_1] at hk
      rw [lo _ (by omega), exNd_len, exNd_5]
      exact m3 i nd0 e1 hk
    · obtain ⟨nd0, e1, rfl⟩ := get i nd hi
      obtain ⟨nd1, e2, rfl⟩ := get j nd' hj
      have := lt_of_getE e1
      have := lt_of_getE e2
      rw [exNd_1] at hk hk'
      rw [lo _ (by omega), lo _ (by omega), exNd_len, exNd_5]
      exact m4 i j nd0 nd1 hij e1 e2 hk hk'
theorem cntL_le {B : Nat → Int} {a b : Nat} {l : List Nd} (hp : pcAt B l) : ∀ n, n ≤ l.length → cntL a b l n ≤ 2000 * n := by
  intro n
  induction n with
  | zero => intro _; exact Nat.le_refl _
  | succ n ih =>
    intro hn
    have := ih (by omega)
    show cntL a b l n + _ ≤ _
    split
    · rename_i hk
      have e : l[n]? = some (l.getD n noNd) := by rw [List.getD_eq_getElem?_getD, List.getElem?_eq_getElem (show n < l.length by omega)]; rfl
      obtain ⟨p, p1, p2, p3, p4, p5, p6⟩ := (hp.2.2 n _ e).2.2.2 hk
      have q : ∀ (ds : List Nat) n, cntD a b ds n ≤ n := fun ds n => by
        induction n with
        | zero => exact Nat.le_refl _
        | succ n ih => show cntD a b ds n + _ ≤ _; split <;> omega
      have := q (l.getD n noNd).2.2.2.1 (l.getD n noNd).2.2.2.1.length
      omega
    · omega
theorem cntD_le (a b : Nat) (ds : List Nat) : ∀ n, cntD a b ds n ≤ n := by
  intro n
  induction n with
  | zero => exact Nat.le_refl _
  | succ n ih => show cntD a b ds n + _ ≤ _; split <;> omega
theorem exR_cast {a b : Nat} {B A : Nat → Int} {l : List Nd} {i k j0 : Nat} {u v : Int} (h : exR a b B l i k (uz A j0 u)) (e : u = v) : exR a b B l i k (uz A j0 v) := by rw [← e]; exact h
set_option maxRecDepth 100000 in
set_option maxHeartbeats 4000000 in
theorem k_exchange {x y : Int} {σ : Sp} (hM : MX g ad o h0 s h) (hT : TI s σ) (hO : spOk σ) (hr : inR x ∧ inR y) (hd : 9 ≤ d) : Kc g mX3_exchange d 0 0 [.ref o, vz x, vz y] h (mP g ad o h0 (mRs (opExch σ x y))) := by
  refine Kc.of (ls := [some (.ref o), some (vz x), some (vz y), none, none, none, none, none]) (by decide +kernel) (Nat.le_of_ble_eq_true rfl) rfl ?_
  refine ev_aload_n dX3_exchange_0 rfl ?_
  refine ev_iconstZ dX3_exchange_1 ?_
  refine mx_putI hM dX3_exchange_2 gf_X3_111_X3 rfl (fun h hM => ?_)
  refine ev_iload_n dX3_exchange_5 rfl ?_
  refine ev_callSE dX3_exchange_6 cs_X3_214 ce_X3_isDancer rfl rfl (k_isDancer (d := d - 1) (by omega) (by omega)) (by omega) (Nat.le_of_ble_eq_true rfl) ?_
  refine ev_if_eqB (tgt := 19) dX3_exchange_9 (by decide) (fun cc => ?_) (fun cc => ?_)
  · refine ev_aload_n dX3_exchange_19 rfl ?_
    refine ev_iconstZ dX3_exchange_20 ?_
    refine mx_call dX3_exchange_21 cv_X3_117_X3 ce_X3_fails hM rfl rfl (k_fails (d := d - 1) (by omega) hM) (by omega) (Nat.le_of_ble_eq_true rfl) (fun h hM => ?_)
    refine ev_ireturn dX3_exchange_24 rfl ?_
    refine ⟨_, _, rfl, ?_, hM⟩
    unfold opExch
    rw [if_neg (by simp at *; omega)]
    exact ⟨rfl, hT, rfl⟩
  · refine ev_iload_n dX3_exchange_12 rfl ?_
    refine ev_callSE dX3_exchange_13 cs_X3_214 ce_X3_isDancer rfl rfl (k_isDancer (d := d - 1) (by omega) (by omega)) (by omega) (Nat.le_of_ble_eq_true rfl) ?_
    refine ev_if_neB (tgt := 25) dX3_exchange_16 (by decide) (fun cd => ?_) (fun cd => ?_)
    · have cx : (0 ≤ x ∧ x ≤ 7) ∧ (0 ≤ y ∧ y ≤ 7) := ⟨by simpa using cc, by simpa using cd⟩
      cases hp : σ.1.2.2.2 with
      | none =>
        refine ev_aload_n dX3_exchange_25 rfl ?_
        refine ev_iconstZ dX3_exchange_26 ?_
        refine mx_callP dX3_exchange_27 cv_X3_305_X3 ce_X3_hasNoPiece hM rfl rfl (k_hasNo0 (code := 2) hM (hT.thrown 0) hO hp (d := d - 1) (by omega)) (by omega) (Nat.le_of_ble_eq_true rfl) (fun v s' h hP hM => ?_)
        obtain ⟨rfl, hP⟩ := hP
        refine ev_if_eqZ (tgt := 35) dX3_exchange_30 (by decide) (by decide) (fun c => absurd c (by decide)) (fun _ => ?_)
        refine ev_iconstZ dX3_exchange_33 ?_
        refine ev_ireturn dX3_exchange_34 rfl ?_
        refine ⟨_, _, rfl, ?_, hM⟩
        unfold opExch
        rw [if_pos cx, withP_none hp]
        exact ⟨hP.1, hP.2, rfl⟩
      | some l =>
        refine ev_aload_n dX3_exchange_25 rfl ?_
        refine ev_iconstZ dX3_exchange_26 ?_
        refine mx_callP dX3_exchange_27 cv_X3_305_X3 ce_X3_hasNoPiece hM rfl rfl (k_hasNo1 (code := 2) hM (hT.thrown 0) hO hp (d := d - 1) (by omega)) (by omega) (Nat.le_of_ble_eq_true rfl) (fun v s' h hP hM => ?_)
        obtain ⟨rfl, hz, hT1, g14, hk1, hf1⟩ := hP
        obtain ⟨k15, kpt, kok⟩ := hk1.ok
        have k17 := kpt.1
        have k18 := kpt.2.1
        have k19 := kpt.2.2.1
        have k20 := kpt.2.2.2.1
        obtain ⟨b1, b2, b3⟩ := dn_some hT1.1 hp
        obtain ⟨hok, hsm⟩ := hO.1.2.2.2.2.2.2 l hp
        have hdb : (mean l).1.2.2.1 ≤ 81 := kok.2.2.1
        have hsb := kok.1
        have hub := kok.2.1
        have hcb := kok.2.2.2.1
        refine ev_if_eqZ (tgt := 35) dX3_exchange_30 (by decide) (by decide) (fun _ => ?_) (fun c => absurd c (by decide))
        refine ev_aload_n dX3_exchange_35 rfl ?_
        refine mx_callv dX3_exchange_36 cv_X3_208_X3 ce_X3_frames hM rfl rfl (k_frames (d := d - 1) (by omega) hM) (by omega) (Nat.le_of_ble_eq_true rfl) (fun h hM => ?_)
        refine ev_iconstZ dX3_exchange_39 ?_
        refine ev_istore_n dX3_exchange_40 (by decide) rfl ?_
        dsimp only [List.set]
        refine ev_iconstZ dX3_exchange_41 ?_
        refine ev_istore dX3_exchange_42 (by decide) rfl ?_
        dsimp only [List.set]
        have hcl := cntL_le (a := x.toNat) (b := y.toNat) b2 l.length (Nat.le_refl _)
        have hlp : 0 < l.length := List.length_pos_iff.mpr hok.1.ne
        have hlm := b2.2.1
        by_cases hxy : x = y
        · refine ev_iload dX3_exchange_44 rfl ?_
          refine ev_aload_n dX3_exchange_46 rfl ?_
          refine mx_getA hM dX3_exchange_47 gf_X3_7_X3 rfl ?_
          refine ev_bipushZ dX3_exchange_50 rfl ?_
          refine mx_iald hM rfl dX3_exchange_52 (by omega) ?_
          try simp only [uS_1, uA_1, uF_1, uS_2, uA_2a, uF_2a, Nat.reduceEqDiff, reduceIte, Int.reduceToNat, Int.toNat_natCast]
          rw [b2.1]
          refine ev_icmp_geZ (tgt := 176) dX3_exchange_53 (by decide) (by omega) (by omega) (fun c => absurd c (by omega)) (fun _ => ?_)
          refine ev_iload_n dX3_exchange_56 rfl ?_
          refine ev_iload_n dX3_exchange_57 rfl ?_
          refine ev_icmp_eqZ (tgt := 176) dX3_exchange_58 (by decide) (by omega) (by omega) (fun _ => ?_) (fun c => absurd hxy c)
          refine ev_iload_n dX3_exchange_176 rfl ?_
          refine ev_if_neZ (tgt := 188) dX3_exchange_177 (by decide) (by decide) (fun c => absurd rfl c) (fun _ => ?_)
          refine ev_aload_n dX3_exchange_180 rfl ?_
          refine ev_bipushZ dX3_exchange_181 rfl ?_
          refine ev_iconstZ dX3_exchange_183 ?_
          refine mx_call dX3_exchange_184 cv_X3_202_X3 ce_X3_stops hM rfl rfl (k_stops (d := d - 1) (by omega) hM) (by omega) (Nat.le_of_ble_eq_true rfl) (fun h hM => ?_)
          refine ev_ireturn dX3_exchange_187 rfl ?_
          refine ⟨_, _, rfl, ?_, hM⟩
          unfold opExch
          rw [if_pos cx, withP_some hp]
          rw [if_pos (Or.inl hxy)]
          have hT2 : TI (uF s' 3 (s'.2 1)) σ := by
            obtain ⟨t1, t2⟩ := hT1
            refine ⟨t1, t2.1, t2.2.1, t2.2.2.1, t2.2.2.2.1, t2.2.2.2.2.1, t2.2.2.2.2.2.1, fun e l' hl' => (t2.2.2.2.2.2.2 e l' hl').F (k := 3) rfl⟩
          exact ⟨rfl, (TI.reason hT2 6 (by decide)).thrown 2, rfl⟩
        · refine ev_for l.length (fun i h => ∃ A : Nat → Int, MX g ad o h0 (uF (uF s' 3 (s'.2 1)) 1 A) h ∧ exR x.toNat y.toNat (s'.2 1) l i 0 A) (fun i => [some (.ref o), some (vz x), some (vz y), some (vz ((cntL x.toNat y.toNat l i : Nat) : Int)), some (vz (i : Int)), none, none, none]) 0 (by omega) ⟨s'.2 1, by exact MX.congr2 hM (by intro j _ _; rfl) (by intro j i hj; simp only [uS_1, uA_1, uF_1, uS_2, uA_2a, uF_2a, Nat.reduceEqDiff, reduceIte, Int.reduceToNat, Int.toNat_natCast]; grind), exR_0⟩ (by repeat' first | exact rfl | exact trivial | exact vz_eq (by omega) | refine And.intro ?_ ?_) (fun i h hi1 hi2 hX hN => ?_) (fun h hX => ?_)
          · clear hM
            obtain ⟨A, hM, hR⟩ := hX
            have hAlo : ∀ j, j < 6645 → A j = s'.2 1 j := fun j hj => hR.2 j (fun ⟨i', k', nd', q1, q2, q3, q4, q5⟩ => by obtain ⟨p, hp, -⟩ := (b2.2.2 i' nd' q1).2.2.2 q2; rw [hp] at q5; omega)
            have hll := b2.2.1
            have hkd := (nd_get b2 (fun nd hn => (hok.2 nd hn).1.1) hi2)
            have hgi : l[i]? = some (l.getD i noNd) := by rw [List.getD_eq_getElem?_getD, List.getElem?_eq_getElem hi2]; rfl
            have hnok := (hok.2 _ (List.mem_of_getElem? hgi)).1
            refine ev_iload dX3_exchange_44 rfl ?_
            refine ev_aload_n dX3_exchange_46 rfl ?_
            refine mx_getA hM dX3_exchange_47 gf_X3_7_X3 rfl ?_
            refine ev_bipushZ dX3_exchange_50 rfl ?_
            refine mx_iald hM rfl dX3_exchange_52 (by omega) ?_
            try simp only [uS_1, uA_1, uF_1, uS_2, uA_2a, uF_2a, Nat.reduceEqDiff, reduceIte, Int.reduceToNat, Int.toNat_natCast]
            rw [hAlo 43 (by omega), b2.1]
            refine ev_icmp_geZ (tgt := 176) dX3_exchange_53 (by decide) (by omega) (by omega) (fun c => absurd c (by omega)) (fun _ => ?_)
            refine ev_iload_n dX3_exchange_56 rfl ?_
            refine ev_iload_n dX3_exchange_57 rfl ?_
            refine ev_icmp_eqZ (tgt := 176) dX3_exchange_58 (by decide) (by omega) (by omega) (fun c => absurd c hxy) (fun _ => ?_)
            refine ev_iconstZ dX3_exchange_61 ?_
            refine ev_istore dX3_exchange_62 (by decide) rfl ?_
            dsimp only [List.set]
            by_cases hk1 : (l.getD i noNd).1 ≤ 1
            · obtain ⟨p, hp1, hp2, hp3, hp4, hp5, hp6⟩ := hkd.1.2.2.2 hk1
              obtain ⟨hd1, hd2, hd8, hst4⟩ := hnok.2.2.2 hk1
              refine ev_for (l.getD i noNd).2.2.2.1.length (fun k h => ∃ A : Nat → Int, MX g ad o h0 (uF (uF s' 3 (s'.2 1)) 1 A) h ∧ exR x.toNat y.toNat (s'.2 1) l i k A) (fun k => [some (.ref o), some (vz x), some (vz y), some (vz (((cntL x.toNat y.toNat l i + cntD x.toNat y.toNat (l.getD i noNd).2.2.2.1 k : Nat)) : Int)), some (vz (i : Int)), some (vz (k : Int)), none, none]) 0 (by omega) ⟨A, hM, hR⟩ (by exact ⟨rfl, rfl, rfl, vz_eq (by simp [cntD]), rfl, rfl, trivial⟩) (fun k h hj1 hj2 hX hN2 => ?_) (fun h hX => ?_)
              · clear hM hR hAlo
                obtain ⟨A, hM, hR⟩ := hX
                have hAlo : ∀ j, j < 6645 → A j = s'.2 1 j := fun j hj => hR.2 j (fun ⟨i', k', nd', q1, q2, q3, q4, q5⟩ => by obtain ⟨p, hp, -⟩ := (b2.2.2 i' nd' q1).2.2.2 q2; rw [hp] at q5; omega)
                have hll := b2.2.1
                have hdk := hd8 k hj2
                refine ev_iload dX3_exchange_64 rfl ?_
                refine ev_aload_n dX3_exchange_66 rfl ?_
                refine ev_iload dX3_exchange_67 rfl ?_
                refine mx_call dX3_exchange_69 cv_X3_162_X3 ce_X3_kind hM rfl rfl (k_kindN (n := i) (x := ((l.getD i noNd).1 : Int)) (d := d - 1) (by omega) hM (by omega) (by simp only [uS_2, uF_2a, Nat.reduceEqDiff, reduceIte]; rw [hAlo _ (by omega)]; exact hkd.1.1)) (by omega) (Nat.le_of_ble_eq_true rfl) (fun h hM => ?_)
                refine ev_iconstZ dX3_exchange_72 ?_
                refine ev_icmp_gtZ (tgt := 86) dX3_exchange_73 (by decide) (by omega) (by omega) (fun c => absurd c (by omega)) (fun _ => ?_)
                refine ev_aload_n dX3_exchange_76 rfl ?_
                refine ev_iload dX3_exchange_77 rfl ?_
                refine ev_iconstZ dX3_exchange_79 ?_
                refine mx_call dX3_exchange_80 cv_X3_133_X3 ce_X3_of hM rfl rfl (k_ofN (n := i) (w := 4) (x := ((l.getD i noNd).2.2.2.1.length : Int)) (d := d - 1) (by omega) hM (by omega) (by simp only [uS_2, uF_2a, Nat.reduceEqDiff, reduceIte]; rw [hAlo _ (by omega)]; exact hp2)) (by omega) (Nat.le_of_ble_eq_true rfl) (fun h hM => ?_)
                refine ev_goto (tgt := 87) dX3_exchange_83 (by decide) ?_
                refine ev_icmp_geZ (tgt := 170) dX3_exchange_87 (by decide) (by omega) (by omega) (fun c => absurd c (by omega)) (fun _ => ?_)
                refine ev_sipushZ dX3_exchange_90 rfl ?_
                refine ev_aload_n dX3_exchange_93 rfl ?_
                refine ev_iload dX3_exchange_94 rfl ?_
                refine ev_iconstZ dX3_exchange_96 ?_
                refine mx_call dX3_exchange_97 cv_X3_133_X3 ce_X3_of hM rfl rfl (k_ofN (n := i) (w := 3) (x := (p : Int)) (d := d - 1) (by omega) hM (by omega) (by simp only [uS_2, uF_2a, Nat.reduceEqDiff, reduceIte]; rw [hAlo _ (by omega)]; exact hp1)) (by omega) (Nat.le_of_ble_eq_true rfl) (fun h hM => ?_)
                refine ev_iaddZ dX3_exchange_100 ?_
                refine ev_iload dX3_exchange_101 rfl ?_
                refine ev_iaddZ dX3_exchange_103 ?_
                refine ev_to (b := ((6645 + (p + k) : Nat) : Int)) (by omega) ?_
                refine ev_istore dX3_exchange_104 (by decide) rfl ?_
                dsimp only [List.set]
                refine ev_aload_n dX3_exchange_106 rfl ?_
                refine mx_getA hM dX3_exchange_107 gf_X3_7_X3 rfl ?_
                refine ev_iload dX3_exchange_110 rfl ?_
                refine mx_iald hM rfl dX3_exchange_112 (by omega) ?_
                try simp only [uS_1, uA_1, uF_1, uS_2, uA_2a, uF_2a, Nat.reduceEqDiff, reduceIte, Int.reduceToNat, Int.toNat_natCast]
                rw [hR.2 _ (Vis_not b3 hgi hk1 hp1), hp5 k hj2]
                refine ev_istore dX3_exchange_113 (by decide) rfl ?_
                dsimp only [List.set]
                refine ev_aload_n dX3_exchange_115 rfl ?_
                refine mx_getA hM dX3_exchange_116 gf_X3_7_X3 rfl ?_
                refine ev_iload dX3_exchange_119 rfl ?_
                refine ev_iload dX3_exchange_121 rfl ?_
                refine ev_iload_n dX3_exchange_123 rfl ?_
                refine ev_icmp_neZ (tgt := 131) dX3_exchange_124 (by decide) (by omega) (by omega) (fun c124 => ?_) (fun c124 => ?_)
                · refine ev_iload dX3_exchange_131 rfl ?_
                  refine ev_iload_n dX3_exchange_133 rfl ?_
                  refine ev_icmp_neZ (tgt := 141) dX3_exchange_134 (by decide) (by omega) (by omega) (fun c134 => ?_) (fun c134 => ?_)
                  · refine ev_iload dX3_exchange_141 rfl ?_
                    refine mx_iast hM rfl dX3_exchange_143 (by omega) (fun h hM => ?_)
                    rw [uA_uF, Int.toNat_natCast] at hM
                    refine ev_iload_n dX3_exchange_144 rfl ?_
                    refine ev_iload dX3_exchange_145 rfl ?_
                    refine ev_iload_n dX3_exchange_147 rfl ?_
                    refine ev_icmp_eqZ (tgt := 157) dX3_exchange_148 (by decide) (by omega) (by omega) (fun c148 => ?_) (fun c148 => ?_)
                    · refine ev_iconstZ dX3_exchange_157 ?_
                      refine ev_goto (tgt := 162) dX3_exchange_158 (by decide) ?_
                      refine ev_iaddZ dX3_exchange_162 ?_
                      refine ev_istore_n dX3_exchange_163 (by decide) rfl ?_
                      dsimp only [List.set]
                      refine ev_iincZ dX3_exchange_164 rfl (by decide) rfl ?_
                      dsimp only [List.set]
                      refine ev_goto (tgt := 64) dX3_exchange_167 (by decide) ?_
                      have e2 : cntD x.toNat y.toNat (l.getD i noNd).2.2.2.1 (k + 1) = cntD x.toNat y.toNat (l.getD i noNd).2.2.2.1 k + (if (l.getD i noNd).2.2.2.1.getD k 0 = x.toNat ∨ (l.getD i noNd).2.2.2.1.getD k 0 = y.toNat then 1 else 0) := rfl
                      have hst := exR_step (a := x.toNat) (b := y.toNat) b3 hgi hk1 hp1 hj2 (hp5 k hj2) hR
                      first
                        | exact hN2 _ _ (by rw [e2, if_pos (by omega)]; exact ⟨rfl, rfl, rfl, vz_eq (by omega), rfl, vz_eq (by omega), trivial⟩) ⟨_, hM, by refine exR_cast hst ?_; unfold exN; first | (rw [if_pos (by omega)]; omega) | (rw [if_neg (by omega), if_pos (by omega)]; omega) | (rw [if_neg (by omega), if_neg (by omega)])⟩
                        | exact hN2 _ _ (by rw [e2, if_neg (by omega)]; exact ⟨rfl, rfl, rfl, vz_eq (by omega), rfl, vz_eq (by omega), trivial⟩) ⟨_, hM, by refine exR_cast hst ?_; unfold exN; first | (rw [if_pos (by omega)]; omega) | (rw [if_neg (by omega), if_pos (by omega)]; omega) | (rw [if_neg (by omega), if_neg (by omega)])⟩
                    · refine ev_iload dX3_exchange_151 rfl ?_
                      refine ev_iload_n dX3_exchange_153 rfl ?_
                      refine ev_icmp_neZ (tgt := 161) dX3_exchange_154 (by decide) (by omega) (by omega) (fun c154 => ?_) (fun c154 => ?_)
                      · refine ev_iconstZ dX3_exchange_161 ?_
                        refine ev_iaddZ dX3_exchange_162 ?_
                        refine ev_istore_n dX3_exchange_163 (by decide) rfl ?_
                        dsimp only [List.set]
                        refine ev_iincZ dX3_exchange_164 rfl (by decide) rfl ?_
                        dsimp only [List.set]
                        refine ev_goto (tgt := 64) dX3_exchange_167 (by decide) ?_
                        have e2 : cntD x.toNat y.toNat (l.getD i noNd).2.2.2.1 (k + 1) = cntD x.toNat y.toNat (l.getD i noNd).2.2.2.1 k + (if (l.getD i noNd).2.2.2.1.getD k 0 = x.toNat ∨ (l.getD i noNd).2.2.2.1.getD k 0 = y.toNat then 1 else 0) := rfl
                        have hst := exR_step (a := x.toNat) (b := y.toNat) b3 hgi hk1 hp1 hj2 (hp5 k hj2) hR
                        first
                          | exact hN2 _ _ (by rw [e2, if_pos (by omega)]; exact ⟨rfl, rfl, rfl, vz_eq (by omega), rfl, vz_eq (by omega), trivial⟩) ⟨_, hM, by refine exR_cast hst ?_; unfold exN; first | (rw [if_pos (by omega)]; omega) | (rw [if_neg (by omega), if_pos (by omega)]; omega) | (rw [if_neg (by omega), if_neg (by omega)])⟩
                          | exact hN2 _ _ (by rw [e2, if_neg (by omega)]; exact ⟨rfl, rfl, rfl, vz_eq (by omega), rfl, vz_eq (by omega), trivial⟩) ⟨_, hM, by refine exR_cast hst ?_; unfold exN; first | (rw [if_pos (by omega)]; omega) | (rw [if_neg (by omega), if_pos (by omega)]; omega) | (rw [if_neg (by omega), if_neg (by omega)])⟩
                      · refine ev_iconstZ dX3_exchange_157 ?_
                        refine ev_goto (tgt := 162) dX3_exchange_158 (by decide) ?_
                        refine ev_iaddZ dX3_exchange_162 ?_
                        refine ev_istore_n dX3_exchange_163 (by decide) rfl ?_
                        dsimp only [List.set]
                        refine ev_iincZ dX3_exchange_164 rfl (by decide) rfl ?_
                        dsimp only [List.set]
                        refine ev_goto (tgt := 64) dX3_exchange_167 (by decide) ?_
                        have e2 : cntD x.toNat y.toNat (l.getD i noNd).2.2.2.1 (k + 1) = cntD x.toNat y.toNat (l.getD i noNd).2.2.2.1 k + (if (l.getD i noNd).2.2.2.1.getD k 0 = x.toNat ∨ (l.getD i noNd).2.2.2.1.getD k 0 = y.toNat then 1 else 0) := rfl
                        have hst := exR_step (a := x.toNat) (b := y.toNat) b3 hgi hk1 hp1 hj2 (hp5 k hj2) hR
                        first
                          | exact hN2 _ _ (by rw [e2, if_pos (by omega)]; exact ⟨rfl, rfl, rfl, vz_eq (by omega), rfl, vz_eq (by omega), trivial⟩) ⟨_, hM, by refine exR_cast hst ?_; unfold exN; first | (rw [if_pos (by omega)]; omega) | (rw [if_neg (by omega), if_pos (by omega)]; omega) | (rw [if_neg (by omega), if_neg (by omega)])⟩
                          | exact hN2 _ _ (by rw [e2, if_neg (by omega)]; exact ⟨rfl, rfl, rfl, vz_eq (by omega), rfl, vz_eq (by omega), trivial⟩) ⟨_, hM, by refine exR_cast hst ?_; unfold exN; first | (rw [if_pos (by omega)]; omega) | (rw [if_neg (by omega), if_pos (by omega)]; omega) | (rw [if_neg (by omega), if_neg (by omega)])⟩
                  · refine ev_iload_n dX3_exchange_137 rfl ?_
                    refine ev_goto (tgt := 143) dX3_exchange_138 (by decide) ?_
                    refine mx_iast hM rfl dX3_exchange_143 (by omega) (fun h hM => ?_)
                    rw [uA_uF, Int.toNat_natCast] at hM
                    refine ev_iload_n dX3_exchange_144 rfl ?_
                    refine ev_iload dX3_exchange_145 rfl ?_
                    refine ev_iload_n dX3_exchange_147 rfl ?_
                    refine ev_icmp_eqZ (tgt := 157) dX3_exchange_148 (by decide) (by omega) (by omega) (fun c148 => ?_) (fun c148 => ?_)
                    · refine ev_iconstZ dX3_exchange_157 ?_
                      refine ev_goto (tgt := 162) dX3_exchange_158 (by decide) ?_
                      refine ev_iaddZ dX3_exchange_162 ?_
                      refine ev_istore_n dX3_exchange_163 (by decide) rfl ?_
                      dsimp only [List.set]
                      refine ev_iincZ dX3_exchange_164 rfl (by decide) rfl ?_
                      dsimp only [List.set]
                      refine ev_goto (tgt := 64) dX3_exchange_167 (by decide) ?_
                      have e2 : cntD x.toNat y.toNat (l.getD i noNd).2.2.2.1 (k + 1) = cntD x.toNat y.toNat (l.getD i noNd).2.2.2.1 k + (if (l.getD i noNd).2.2.2.1.getD k 0 = x.toNat ∨ (l.getD i noNd).2.2.2.1.getD k 0 = y.toNat then 1 else 0) := rfl
                      have hst := exR_step (a := x.toNat) (b := y.toNat) b3 hgi hk1 hp1 hj2 (hp5 k hj2) hR
                      first
                        | exact hN2 _ _ (by rw [e2, if_pos (by omega)]; exact ⟨rfl, rfl, rfl, vz_eq (by omega), rfl, vz_eq (by omega), trivial⟩) ⟨_, hM, by refine exR_cast hst ?_; unfold exN; first | (rw [if_pos (by omega)]; omega) | (rw [if_neg (by omega), if_pos (by omega)]; omega) | (rw [if_neg (by omega), if_neg (by omega)])⟩
                        | exact hN2 _ _ (by rw [e2, if_neg (by omega)]; exact ⟨rfl, rfl, rfl, vz_eq (by omega), rfl, vz_eq (by omega), trivial⟩) ⟨_, hM, by refine exR_cast hst ?_; unfold exN; first | (rw [if_pos (by omega)]; omega) | (rw [if_neg (by omega), if_pos (by omega)]; omega) | (rw [if_neg (by omega), if_neg (by omega)])⟩
                    · refine ev_iload dX3_exchange_151 rfl ?_
                      refine ev_iload_n dX3_exchange_153 rfl ?_
                      refine ev_icmp_neZ (tgt := 161) dX3_exchange_154 (by decide) (by omega) (by omega) (fun c154 => ?_) (fun c154 => ?_)
                      · refine ev_iconstZ dX3_exchange_161 ?_
                        refine ev_iaddZ dX3_exchange_162 ?_
                        refine ev_istore_n dX3_exchange_163 (by decide) rfl ?_
                        dsimp only [List.set]
                        refine ev_iincZ dX3_exchange_164 rfl (by decide) rfl ?_
                        dsimp only [List.set]
                        refine ev_goto (tgt := 64) dX3_exchange_167 (by decide) ?_
                        have e2 : cntD x.toNat y.toNat (l.getD i noNd).2.2.2.1 (k + 1) = cntD x.toNat y.toNat (l.getD i noNd).2.2.2.1 k + (if (l.getD i noNd).2.2.2.1.getD k 0 = x.toNat ∨ (l.getD i noNd).2.2.2.1.getD k 0 = y.toNat then 1 else 0) := rfl
                        have hst := exR_step (a := x.toNat) (b := y.toNat) b3 hgi hk1 hp1 hj2 (hp5 k hj2) hR
                        first
                          | exact hN2 _ _ (by rw [e2, if_pos (by omega)]; exact ⟨rfl, rfl, rfl, vz_eq (by omega), rfl, vz_eq (by omega), trivial⟩) ⟨_, hM, by refine exR_cast hst ?_; unfold exN; first | (rw [if_pos (by omega)]; omega) | (rw [if_neg (by omega), if_pos (by omega)]; omega) | (rw [if_neg (by omega), if_neg (by omega)])⟩
                          | exact hN2 _ _ (by rw [e2, if_neg (by omega)]; exact ⟨rfl, rfl, rfl, vz_eq (by omega), rfl, vz_eq (by omega), trivial⟩) ⟨_, hM, by refine exR_cast hst ?_; unfold exN; first | (rw [if_pos (by omega)]; omega) | (rw [if_neg (by omega), if_pos (by omega)]; omega) | (rw [if_neg (by omega), if_neg (by omega)])⟩
                      · refine ev_iconstZ dX3_exchange_157 ?_
                        refine ev_goto (tgt := 162) dX3_exchange_158 (by decide) ?_
                        refine ev_iaddZ dX3_exchange_162 ?_
                        refine ev_istore_n dX3_exchange_163 (by decide) rfl ?_
                        dsimp only [List.set]
                        refine ev_iincZ dX3_exchange_164 rfl (by decide) rfl ?_
                        dsimp only [List.set]
                        refine ev_goto (tgt := 64) dX3_exchange_167 (by decide) ?_
                        have e2 : cntD x.toNat y.toNat (l.getD i noNd).2.2.2.1 (k + 1) = cntD x.toNat y.toNat (l.getD i noNd).2.2.2.1 k + (if (l.getD i noNd).2.2.2.1.getD k 0 = x.toNat ∨ (l.getD i noNd).2.2.2.1.getD k 0 = y.toNat then 1 else 0) := rfl
                        have hst := exR_step (a := x.toNat) (b := y.toNat) b3 hgi hk1 hp1 hj2 (hp5 k hj2) hR
                        first
                          | exact hN2 _ _ (by rw [e2, if_pos (by omega)]; exact ⟨rfl, rfl, rfl, vz_eq (by omega), rfl, vz_eq (by omega), trivial⟩) ⟨_, hM, by refine exR_cast hst ?_; unfold exN; first | (rw [if_pos (by omega)]; omega) | (rw [if_neg (by omega), if_pos (by omega)]; omega) | (rw [if_neg (by omega), if_neg (by omega)])⟩
                          | exact hN2 _ _ (by rw [e2, if_neg (by omega)]; exact ⟨rfl, rfl, rfl, vz_eq (by omega), rfl, vz_eq (by omega), trivial⟩) ⟨_, hM, by refine exR_cast hst ?_; unfold exN; first | (rw [if_pos (by omega)]; omega) | (rw [if_neg (by omega), if_pos (by omega)]; omega) | (rw [if_neg (by omega), if_neg (by omega)])⟩
                · refine ev_iload_n dX3_exchange_127 rfl ?_
                  refine ev_goto (tgt := 143) dX3_exchange_128 (by decide) ?_
                  refine mx_iast hM rfl dX3_exchange_143 (by omega) (fun h hM => ?_)
                  rw [uA_uF, Int.toNat_natCast] at hM
                  refine ev_iload_n dX3_exchange_144 rfl ?_
                  refine ev_iload dX3_exchange_145 rfl ?_
                  refine ev_iload_n dX3_exchange_147 rfl ?_
                  refine ev_icmp_eqZ (tgt := 157) dX3_exchange_148 (by decide) (by omega) (by omega) (fun c148 => ?_) (fun c148 => ?_)
                  · refine ev_iconstZ dX3_exchange_157 ?_
                    refine ev_goto (tgt := 162) dX3_exchange_158 (by decide) ?_
                    refine ev_iaddZ dX3_exchange_162 ?_
                    refine ev_istore_n dX3_exchange_163 (by decide) rfl ?_
                    dsimp only [List.set]
                    refine ev_iincZ dX3_exchange_164 rfl (by decide) rfl ?_
                    dsimp only [List.set]
                    refine ev_goto (tgt := 64) dX3_exchange_167 (by decide) ?_
                    have e2 : cntD x.toNat y.toNat (l.getD i noNd).2.2.2.1 (k + 1) = cntD x.toNat y.toNat (l.getD i noNd).2.2.2.1 k + (if (l.getD i noNd).2.2.2.1.getD k 0 = x.toNat ∨ (l.getD i noNd).2.2.2.1.getD k 0 = y.toNat then 1 else 0) := rfl
                    have hst := exR_step (a := x.toNat) (b := y.toNat) b3 hgi hk1 hp1 hj2 (hp5 k hj2) hR
                    first
                      | exact hN2 _ _ (by rw [e2, if_pos (by omega)]; exact ⟨rfl, rfl, rfl, vz_eq (by omega), rfl, vz_eq (by omega), trivial⟩) ⟨_, hM, by refine exR_cast hst ?_; unfold exN; first | (rw [if_pos (by omega)]; omega) | (rw [if_neg (by omega), if_pos (by omega)]; omega) | (rw [if_neg (by omega), if_neg (by omega)])⟩
                      | exact hN2 _ _ (by rw [e2, if_neg (by omega)]; exact ⟨rfl, rfl, rfl, vz_eq (by omega), rfl, vz_eq (by omega), trivial⟩) ⟨_, hM, by refine exR_cast hst ?_; unfold exN; first | (rw [if_pos (by omega)]; omega) | (rw [if_neg (by omega), if_pos (by omega)]; omega) | (rw [if_neg (by omega), if_neg (by omega)])⟩
                  · refine ev_iload dX3_exchange_151 rfl ?_
                    refine ev_iload_n dX3_exchange_153 rfl ?_
                    refine ev_icmp_neZ (tgt := 161) dX3_exchange_154 (by decide) (by omega) (by omega) (fun c154 => ?_) (fun c154 => ?_)
                    · refine ev_iconstZ dX3_exchange_161 ?_
                      refine ev_iaddZ dX3_exchange_162 ?_
                      refine ev_istore_n dX3_exchange_163 (by decide) rfl ?_
                      dsimp only [List.set]
                      refine ev_iincZ dX3_exchange_164 rfl (by decide) rfl ?_
                      dsimp only [List.set]
                      refine ev_goto (tgt := 64) dX3_exchange_167 (by decide) ?_
                      have e2 : cntD x.toNat y.toNat (l.getD i noNd).2.2.2.1 (k + 1) = cntD x.toNat y.toNat (l.getD i noNd).2.2.2.1 k + (if (l.getD i noNd).2.2.2.1.getD k 0 = x.toNat ∨ (l.getD i noNd).2.2.2.1.getD k 0 = y.toNat then 1 else 0) := rfl
                      have hst := exR_step (a := x.toNat) (b := y.toNat) b3 hgi hk1 hp1 hj2 (hp5 k hj2) hR
                      first
                        | exact hN2 _ _ (by rw [e2, if_pos (by omega)]; exact ⟨rfl, rfl, rfl, vz_eq (by omega), rfl, vz_eq (by omega), trivial⟩) ⟨_, hM, by refine exR_cast hst ?_; unfold exN; first | (rw [if_pos (by omega)]; omega) | (rw [if_neg (by omega), if_pos (by omega)]; omega) | (rw [if_neg (by omega), if_neg (by omega)])⟩
                        | exact hN2 _ _ (by rw [e2, if_neg (by omega)]; exact ⟨rfl, rfl, rfl, vz_eq (by omega), rfl, vz_eq (by omega), trivial⟩) ⟨_, hM, by refine exR_cast hst ?_; unfold exN; first | (rw [if_pos (by omega)]; omega) | (rw [if_neg (by omega), if_pos (by omega)]; omega) | (rw [if_neg (by omega), if_neg (by omega)])⟩
                    · refine ev_iconstZ dX3_exchange_157 ?_
                      refine ev_goto (tgt := 162) dX3_exchange_158 (by decide) ?_
                      refine ev_iaddZ dX3_exchange_162 ?_
                      refine ev_istore_n dX3_exchange_163 (by decide) rfl ?_
                      dsimp only [List.set]
                      refine ev_iincZ dX3_exchange_164 rfl (by decide) rfl ?_
                      dsimp only [List.set]
                      refine ev_goto (tgt := 64) dX3_exchange_167 (by decide) ?_
                      have e2 : cntD x.toNat y.toNat (l.getD i noNd).2.2.2.1 (k + 1) = cntD x.toNat y.toNat (l.getD i noNd).2.2.2.1 k + (if (l.getD i noNd).2.2.2.1.getD k 0 = x.toNat ∨ (l.getD i noNd).2.2.2.1.getD k 0 = y.toNat then 1 else 0) := rfl
                      have hst := exR_step (a := x.toNat) (b := y.toNat) b3 hgi hk1 hp1 hj2 (hp5 k hj2) hR
                      first
                        | exact hN2 _ _ (by rw [e2, if_pos (by omega)]; exact ⟨rfl, rfl, rfl, vz_eq (by omega), rfl, vz_eq (by omega), trivial⟩) ⟨_, hM, by refine exR_cast hst ?_; unfold exN; first | (rw [if_pos (by omega)]; omega) | (rw [if_neg (by omega), if_pos (by omega)]; omega) | (rw [if_neg (by omega), if_neg (by omega)])⟩
                        | exact hN2 _ _ (by rw [e2, if_neg (by omega)]; exact ⟨rfl, rfl, rfl, vz_eq (by omega), rfl, vz_eq (by omega), trivial⟩) ⟨_, hM, by refine exR_cast hst ?_; unfold exN; first | (rw [if_pos (by omega)]; omega) | (rw [if_neg (by omega), if_pos (by omega)]; omega) | (rw [if_neg (by omega), if_neg (by omega)])⟩
              · clear hM hR hAlo
                obtain ⟨A, hM, hR⟩ := hX
                have hAlo : ∀ j, j < 6645 → A j = s'.2 1 j := fun j hj => hR.2 j (fun ⟨i', k', nd', q1, q2, q3, q4, q5⟩ => by obtain ⟨p, hp, -⟩ := (b2.2.2 i' nd' q1).2.2.2 q2; rw [hp] at q5; omega)
                have hll := b2.2.1
                refine ev_iload dX3_exchange_64 rfl ?_
                refine ev_aload_n dX3_exchange_66 rfl ?_
                refine ev_iload dX3_exchange_67 rfl ?_
                refine mx_call dX3_exchange_69 cv_X3_162_X3 ce_X3_kind hM rfl rfl (k_kindN (n := i) (x := ((l.getD i noNd).1 : Int)) (d := d - 1) (by omega) hM (by omega) (by simp only [uS_2, uF_2a, Nat.reduceEqDiff, reduceIte]; rw [hAlo _ (by omega)]; exact hkd.1.1)) (by omega) (Nat.le_of_ble_eq_true rfl) (fun h hM => ?_)
                refine ev_iconstZ dX3_exchange_72 ?_
                refine ev_icmp_gtZ (tgt := 86) dX3_exchange_73 (by decide) (by omega) (by omega) (fun c => absurd c (by omega)) (fun _ => ?_)
                refine ev_aload_n dX3_exchange_76 rfl ?_
                refine ev_iload dX3_exchange_77 rfl ?_
                refine ev_iconstZ dX3_exchange_79 ?_
                refine mx_call dX3_exchange_80 cv_X3_133_X3 ce_X3_of hM rfl rfl (k_ofN (n := i) (w := 4) (x := ((l.getD i noNd).2.2.2.1.length : Int)) (d := d - 1) (by omega) hM (by omega) (by simp only [uS_2, uF_2a, Nat.reduceEqDiff, reduceIte]; rw [hAlo _ (by omega)]; exact hp2)) (by omega) (Nat.le_of_ble_eq_true rfl) (fun h hM => ?_)
                refine ev_goto (tgt := 87) dX3_exchange_83 (by decide) ?_
                refine ev_icmp_geZ (tgt := 170) dX3_exchange_87 (by decide) (by omega) (by omega) (fun _ => ?_) (fun c => absurd (by omega) c)
                refine ev_iincZ dX3_exchange_170 rfl (by decide) rfl ?_
                dsimp only [List.set]
                refine ev_goto (tgt := 44) dX3_exchange_173 (by decide) ?_
                have e3 : cntL x.toNat y.toNat l (i + 1) = cntL x.toNat y.toNat l i + (if (l.getD i noNd).1 ≤ 1 then cntD x.toNat y.toNat (l.getD i noNd).2.2.2.1 (l.getD i noNd).2.2.2.1.length else 0) := rfl
                exact hN _ _ (by rw [e3, if_pos hk1]; exact ⟨rfl, rfl, rfl, rfl, rfl, trivial⟩) ⟨A, hM, exR_next hgi (by rw [if_pos hk1]; exact hR)⟩
            · refine ev_iload dX3_exchange_64 rfl ?_
              refine ev_aload_n dX3_exchange_66 rfl ?_
              refine ev_iload dX3_exchange_67 rfl ?_
              refine mx_call dX3_exchange_69 cv_X3_162_X3 ce_X3_kind hM rfl rfl (k_kindN (n := i) (x := ((l.getD i noNd).1 : Int)) (d := d - 1) (by omega) hM (by omega) (by simp only [uS_2, uF_2a, Nat.reduceEqDiff, reduceIte]; rw [hAlo _ (by omega)]; exact hkd.1.1)) (by omega) (Nat.le_of_ble_eq_true rfl) (fun h hM => ?_)
              refine ev_iconstZ dX3_exchange_72 ?_
              refine ev_icmp_gtZ (tgt := 86) dX3_exchange_73 (by decide) (by omega) (by omega) (fun _ => ?_) (fun c => absurd (by omega) c)
              refine ev_iconstZ dX3_exchange_86 ?_
              refine ev_icmp_geZ (tgt := 170) dX3_exchange_87 (by decide) (by decide) (by decide) (fun _ => ?_) (fun c => absurd (by decide) c)
              refine ev_iincZ dX3_exchange_170 rfl (by decide) rfl ?_
              dsimp only [List.set]
              refine ev_goto (tgt := 44) dX3_exchange_173 (by decide) ?_
              have e3 : cntL x.toNat y.toNat l (i + 1) = cntL x.toNat y.toNat l i + (if (l.getD i noNd).1 ≤ 1 then cntD x.toNat y.toNat (l.getD i noNd).2.2.2.1 (l.getD i noNd).2.2.2.1.length else 0) := rfl
              exact hN _ _ (by rw [e3, if_neg hk1]; exact ⟨rfl, rfl, rfl, rfl, rfl, trivial⟩) ⟨A, hM, exR_next hgi (by rw [if_neg hk1]; exact hR)⟩
          · clear hM
            obtain ⟨A, hM, hR⟩ := hX
            have hAlo : ∀ j, j < 6645 → A j = s'.2 1 j := fun j hj => hR.2 j (fun ⟨i', k', nd', q1, q2, q3, q4, q5⟩ => by obtain ⟨p, hp, -⟩ := (b2.2.2 i' nd' q1).2.2.2 q2; rw [hp] at q5; omega)
            have hll := b2.2.1
            refine ev_iload dX3_exchange_44 rfl ?_
            refine ev_aload_n dX3_exchange_46 rfl ?_
            refine mx_getA hM dX3_exchange_47 gf_X3_7_X3 rfl ?_
            refine ev_bipushZ dX3_exchange_50 rfl ?_
            refine mx_iald hM rfl dX3_exchange_52 (by omega) ?_
            try simp only [uS_1, uA_1, uF_1, uS_2, uA_2a, uF_2a, Nat.reduceEqDiff, reduceIte, Int.reduceToNat, Int.toNat_natCast]
            rw [hAlo 43 (by omega), b2.1]
            refine ev_icmp_geZ (tgt := 176) dX3_exchange_53 (by decide) (by omega) (by omega) (fun _ => ?_) (fun c => absurd (by omega) c)
            refine ev_iload_n dX3_exchange_176 rfl ?_
            refine ev_if_neZ (tgt := 188) dX3_exchange_177 (by decide) (by omega) (fun c177 => ?_) (fun c177 => ?_)
            · refine ev_aload_n dX3_exchange_188 rfl ?_
              refine mx_callv dX3_exchange_189 cv_X3_211_X3 ce_X3_keeps hM rfl rfl (k_keeps (d := d - 1) (by omega) hM (by simp only [uF_1]; have := hT1.2.1; omega)) (by omega) (Nat.le_of_ble_eq_true rfl) (fun h hM => ?_)
              refine ev_iload_n dX3_exchange_192 rfl ?_
              refine ev_ireturn dX3_exchange_193 rfl ?_
              refine ⟨_, _, rfl, ?_, hM⟩
              unfold opExch
              rw [if_pos cx, withP_some hp]
              have hc0 : ¬ cntL x.toNat y.toNat l l.length = 0 := by omega
              rw [if_neg (fun q => q.elim hxy hc0)]
              obtain ⟨e1, e2, e3⟩ := pc_ex (a := x.toNat) (b := y.toNat) (by omega) (by omega) hok hsm
              refine ⟨hz, TI.keep hT1 (fr.F (fr.F (fr.refl _ _ _) rfl) rfl) (fun j hj => by simp only [uS_1, uA_1, uF_1, uS_2, uA_2a, uF_2a, Nat.reduceEqDiff, reduceIte, Int.reduceToNat, Int.toNat_natCast]) ?_, rfl⟩
              exact dn_ex hT1.1 hp hR e3.1
            · refine ev_aload_n dX3_exchange_180 rfl ?_
              refine ev_bipushZ dX3_exchange_181 rfl ?_
              refine ev_iconstZ dX3_exchange_183 ?_
              refine mx_call dX3_exchange_184 cv_X3_202_X3 ce_X3_stops hM rfl rfl (k_stops (d := d - 1) (by omega) hM) (by omega) (Nat.le_of_ble_eq_true rfl) (fun h hM => ?_)
              refine ev_ireturn dX3_exchange_187 rfl ?_
              refine ⟨_, _, rfl, ?_, hM⟩
              unfold opExch
              rw [if_pos cx, withP_some hp]
              have hc0 : cntL x.toNat y.toNat l l.length = 0 := by omega
              rw [if_pos (Or.inr hc0)]
              have hA0 := exR_same b2 hR hc0
              have hT2 : TI (uF (uF s' 3 (s'.2 1)) 1 A) σ := by
                have e1 : (uF (uF s' 3 (s'.2 1)) 1 A).2 1 = s'.2 1 := by funext j; exact hA0 j
                obtain ⟨t1, t2⟩ := hT1
                refine ⟨by rw [e1]; exact t1, t2.1, t2.2.1, t2.2.2.1, t2.2.2.2.1, t2.2.2.2.2.1, t2.2.2.2.2.2.1, fun e l' hl' => ((t2.2.2.2.2.2.2 e l' hl').F (k := 3) rfl).F (k := 1) rfl⟩
              exact ⟨rfl, (TI.reason hT2 6 (by decide)).thrown 2, rfl⟩
    · refine ev_aload_n dX3_exchange_19 rfl ?_
      refine ev_iconstZ dX3_exchange_20 ?_
      refine mx_call dX3_exchange_21 cv_X3_117_X3 ce_X3_fails hM rfl rfl (k_fails (d := d - 1) (by omega) hM) (by omega) (Nat.le_of_ble_eq_true rfl) (fun h hM => ?_)
      refine ev_ireturn dX3_exchange_24 rfl ?_
      refine ⟨_, _, rfl, ?_, hM⟩
      unfold opExch
      rw [if_neg (by simp at *; omega)]
      exact ⟨rfl, hT, rfl⟩
end P9

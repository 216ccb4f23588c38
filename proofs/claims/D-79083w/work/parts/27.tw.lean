/-! the state that both sides have; how the reference holds it (printed by gen/mktw.py) -/
section TW
/-- a dance: (columns, rows), starts, formations, piece -/
abbrev Dn : Type := (Nat × Nat) × (Nat → Int) × (Nat → Nat → Int) × Option (List Nd)
/-- all: the dance, those that can be had again (oldest first), the saved one, (input, output), (reason, refused dancer, error's place) -/
abbrev Sp : Type := Dn × List Dn × Option Dn × (List Nat × List Nat) × (Int × Int × Int)
def wReason (σ : Sp) (x : Int) : Sp := (σ.1, σ.2.1, σ.2.2.1, σ.2.2.2.1, (x, σ.2.2.2.2.2))
/-- eight places, each -1 or on the stage, no two the same -/
def plOk (D : Dn) (f : Nat → Int) : Prop := (∀ e : Nat, e < 8 → -1 ≤ f e ∧ f e < D.1.1 * D.1.2) ∧ ∀ e e' : Nat, e < 8 → e' < 8 → f e = f e' → f e ≠ -1 → e = e'
def mean (l : List Nd) : Pt := match sem l with
  | .ok P => P
  | .error _ => noPt
def dnOk (D : Dn) : Prop := 2 ≤ D.1.1 ∧ D.1.1 ≤ 9 ∧ 2 ≤ D.1.2 ∧ D.1.2 ≤ 9 ∧ plOk D D.2.1 ∧ (∀ f : Nat, f < 4 → plOk D (D.2.2.1 f)) ∧ ∀ l, D.2.2.2 = some l → pcOk l ∧ sem l = .ok (mean l)
def spOk (σ : Sp) : Prop := dnOk σ.1 ∧ (∀ D ∈ σ.2.1, dnOk D) ∧ ∀ D, σ.2.2.1 = some D → dnOk D
/-- where a piece's data lie: one node's behind the other's -/
def dtAt (A : Nat → Int) (l : List Nd) : Prop := ∃ m : Nat, A 44 = m ∧ m ≤ 100 + 16 * (mean l).1.1 ∧ (∀ (i : Nat) (nd : Nd), l[i]? = some nd → nd.1 ≤ 1 → A (45 + 6 * i + 3) + nd.2.2.2.1.length + nd.2.2.2.2.length ≤ m) ∧ ∀ (i j : Nat) (nd nd' : Nd), i < j → l[i]? = some nd → l[j]? = some nd' → nd.1 ≤ 1 → nd'.1 ≤ 1 → A (45 + 6 * i + 3) + nd.2.2.2.1.length + nd.2.2.2.2.length ≤ A (45 + 6 * j + 3)
def dnAt (A : Nat → Int) (D : Dn) : Prop := A 0 = D.1.1 ∧ A 1 = D.1.2 ∧ (∀ e : Nat, e < 8 → A (2 + e) = D.2.1 e) ∧ (∀ f e : Nat, f < 4 → e < 8 → A (10 + 8 * f + e) = D.2.2.1 f e) ∧ match D.2.2.2 with
  | none => A 42 = 0
  | some l => A 42 = 1 ∧ pcAt A l ∧ dtAt A l
theorem ndAt.congr {A B : Nat → Int} {n : Nat} {nd : Nd} (hn : n < 1000) (h : ∀ j, j < 8645 → B j = A j) (hA : ndAt A n nd) : ndAt B n nd := by
  obtain ⟨h1, h2, h3, h4⟩ := hA
  refine ⟨by rw [h _ (by omega), h1], by rw [h _ (by omega), h2], by rw [h _ (by omega), h3], fun hk => ?_⟩
  obtain ⟨p, p1, p2, p3, p4, p5, p6⟩ := h4 hk
  exact ⟨p, by rw [h _ (by omega), p1], by rw [h _ (by omega), p2], by rw [h _ (by omega), p3], p4, fun i hi => by rw [h _ (by omega), p5 i hi], fun i hi => by rw [h _ (by omega), p6 i hi]⟩
theorem lt_of_getE {α : Type} {l : List α} {i : Nat} {x : α} (h : l[i]? = some x) : i < l.length := by
  rcases Nat.lt_or_ge i l.length with q | q
  · exact q
  · rw [List.getElem?_eq_none q] at h; cases h
theorem dnAt.congr {A B : Nat → Int} {D : Dn} (h : ∀ j, j < 8645 → B j = A j) (hA : dnAt A D) : dnAt B D := by
  obtain ⟨h1, h2, h3, h4, h5⟩ := hA
  refine ⟨by rw [h _ (by omega), h1], by rw [h _ (by omega), h2], fun e he => by rw [h _ (by omega), h3 e he], fun f e hf he => by rw [h _ (by omega), h4 f e hf he], ?_⟩
  cases hp : D.2.2.2 with
  | none => rw [hp] at h5; rw [← h5]; exact h _ (by omega)
  | some l =>
    rw [hp] at h5
    obtain ⟨q1, ⟨q2, q3, q4⟩, m, m1, m2, m3, m4⟩ := h5
    refine ⟨by rw [h _ (by omega), q1], ⟨by rw [h _ (by omega), q2], q3, fun i nd hi => (q4 i nd hi).congr (by have := lt_of_getE hi; omega) h⟩, m, by rw [h _ (by omega), m1], m2, fun i nd hi hk => ?_, fun i j nd nd' hij hi hj hk hk' => ?_⟩
    · have := lt_of_getE hi
      rw [h _ (by omega)]
      exact m3 i nd hi hk
    · have := lt_of_getE hi
      have := lt_of_getE hj
      rw [h _ (by omega), h _ (by omega)]
      exact m4 i j nd nd' hij hi hj hk hk'
/-- the reference holds the state σ -/
def TI (s : MSt) (σ : Sp) : Prop :=
  dnAt (s.2 1) σ.1 ∧
  (s.1 5 = σ.2.1.length ∧ σ.2.1.length ≤ 8 ∧ ∀ (i : Nat) (D : Dn), σ.2.1[i]? = some D → dnAt (fun j => s.2 4 (8645 * i + j)) D) ∧
  (match σ.2.2.1 with
    | none => s.1 6 = 0
    | some D => s.1 6 = 1 ∧ dnAt (s.2 2) D) ∧
  (s.1 10 = σ.2.2.2.1.1.length ∧ σ.2.2.2.1.1.length ≤ 100 ∧ ∀ (i x : Nat), σ.2.2.2.1.1[i]? = some x → s.2 9 i = x ∧ x < 256) ∧
  (s.1 13 = σ.2.2.2.1.2.length ∧ σ.2.2.2.1.2.length ≤ 12000 ∧ ∀ (i x : Nat), σ.2.2.2.1.2[i]? = some x → s.2 12 i = x ∧ x < 256) ∧
  (s.1 7 = σ.2.2.2.2.1 ∧ s.1 8 = σ.2.2.2.2.2.1 ∧ s.1 11 = σ.2.2.2.2.2.2 ∧ inR (s.1 7) ∧ inR (s.1 8) ∧ inR (s.1 11)) ∧
  ((s.1 14 = 0 ∨ s.1 14 = 1) ∧ (s.1 14 = 1 → ∀ l, σ.1.2.2.2 = some l → knAt s (sem l)))
/-- the places that hold it -/
def KT : List Nat := [5, 6, 7, 8, 10, 11, 13]
theorem TI.move {s s' : MSt} {σ : Sp} (h : TI s σ) {K J : List Nat} (hf : fr s s' K J) (hK : [5, 6, 7, 8, 10, 11, 13].all (fun x => ! K.contains x) = true) (hJ : [1, 2, 4, 9, 12].all (fun x => ! J.contains x) = true) (hk : (s'.1 14 = 0 ∨ s'.1 14 = 1) ∧ (s'.1 14 = 1 → ∀ l, σ.1.2.2.2 = some l → knAt s' (sem l))) : TI s' σ := by
  have key : ∀ j, j ∈ [5, 6, 7, 8, 10, 11, 13] → s'.1 j = s.1 j := fun j hj => hf.1 j (by
    have := List.all_eq_true.mp hK j hj
    simpa using this)
  have key2 : ∀ j, j ∈ [1, 2, 4, 9, 12] → s'.2 j = s.2 j := fun j hj => hf.2 j (by
    have := List.all_eq_true.mp hJ j hj
    simpa using this)
  obtain ⟨h1, h2, h3, h4, h5, h6, h7⟩ := h
  unfold TI
  rw [key 5 (by simp), key 6 (by simp), key 7 (by simp), key 8 (by simp), key 10 (by simp), key 11 (by simp), key 13 (by simp), key2 1 (by simp), key2 2 (by simp), key2 4 (by simp), key2 9 (by simp), key2 12 (by simp)]
  exact ⟨h1, h2, h3, h4, h5, h6, hk⟩
/-- only what is thrown changes -/
theorem TI.thrown {s : MSt} {σ : Sp} (h : TI s σ) (x : Int) : TI (uS s 0 x) σ := h
theorem knAt.S {s : MSt} {v : Me} {k : Nat} {x : Int} (h : knAt s v) (hk : [15, 16, 17, 18, 19, 20].contains k = false) : knAt (uS s k x) v := by
  have e : ∀ j, j ∈ [15, 16, 17, 18, 19, 20] → (uS s k x).1 j = s.1 j := fun j hj => if_neg (fun q => by subst q; simp at hk hj; omega)
  unfold knAt
  cases v with
  | error e' =>
    have h' : (s.1 15 = e'.1 ∧ s.1 16 = e'.2) ∧ (e'.1 = 1 ∨ e'.1 = 2) := h
    exact ⟨⟨by rw [e 15 (by simp)]; exact h'.1.1, by rw [e 16 (by simp)]; exact h'.1.2⟩, h'.2⟩
  | ok P =>
    have h' : s.1 15 = 0 ∧ ptAt s P ∧ okPt P 0 := h
    refine ⟨by rw [e 15 (by simp)]; exact h'.1, ?_, h'.2.2⟩
    have q := h'.2.1
    unfold ptAt at q ⊢
    rw [e 17 (by simp), e 18 (by simp), e 19 (by simp), e 20 (by simp)]
    exact q
theorem TI.reason {s : MSt} {σ : Sp} (h : TI s σ) (x : Int) (hx : inR x) : TI (uS s 7 x) (wReason σ x) := by
  obtain ⟨h1, h2, h3, h4, h5, ⟨h6, h6b, h6c, h6d⟩, h7, h8⟩ := h
  exact ⟨h1, h2, h3, h4, h5, ⟨rfl, h6b, h6c, hx, h6d.2⟩, h7, fun e l hl => (h8 e l hl).S rfl⟩
/-- a command is carried out: the dance before it can be had again -/
def keepSp (σ : Sp) (D' : Dn) : Sp := (D', (if σ.2.1.length = 8 then σ.2.1.tail else σ.2.1) ++ [σ.1], σ.2.2)
theorem kpN_nat {n : Nat} (h : n ≤ 8) : kpN (n : Int) = ((if n = 8 then 8 else n + 1 : Nat) : Int) := by
  unfold kpN
  by_cases q : n = 8
  · rw [if_pos (by omega), if_pos q]; rfl
  · rw [if_neg (by omega), if_neg q]; rfl
theorem TI.keep {s s1 : MSt} {σ : Sp} {D' : Dn} (h : TI s σ) (hf : fr s s1 [0, 14, 15, 16, 17, 18, 19, 20, 23] [1, 3, 21, 22, 24, 25, 26, 27, 28, 29, 30, 31, 32, 33, 34, 40, 41, 47, 48, 49, 50, 51, 52]) (h3 : ∀ j, j < 8645 → s1.2 3 j = s.2 1 j) (hA : dnAt (s1.2 1) D') : TI (kepS s1) (keepSp σ D') := by
  obtain ⟨h1, ⟨h5, h8, hh⟩, h6, h10, h13, h7, -⟩ := h
  have k5 : s1.1 5 = σ.2.1.length := (hf.1 5 (by decide)).trans h5
  have e4 : s1.2 4 = s.2 4 := hf.2 4 (by decide)
  have q5 : (kepS s1).1 5 = ((if σ.2.1.length = 8 then 8 else σ.2.1.length + 1 : Nat) : Int) := by
    show kpN (s1.1 5) = _
    rw [k5]; exact kpN_nat h8
  have ql : (keepSp σ D').2.1.length = if σ.2.1.length = 8 then 8 else σ.2.1.length + 1 := by
    show ((if σ.2.1.length = 8 then σ.2.1.tail else σ.2.1) ++ [σ.1]).length = _
    split <;> simp [List.length_append] <;> omega
  refine ⟨hA, ⟨by rw [q5, ql], by rw [ql]; split <;> omega, fun i D hi => ?_⟩, ?_, ?_, ?_, ?_, Or.inl rfl, fun q => by cases q⟩
  · have q4 : (kepS s1).2 4 = hisA (s1.2 4) (s1.2 3) (s1.1 5) := rfl
    have hkn : (kpN (s1.1 5)).toNat = if σ.2.1.length = 8 then 8 else σ.2.1.length + 1 := by
      rw [k5, kpN_nat h8]; exact Int.toNat_natCast _
    have hi' : ((if σ.2.1.length = 8 then σ.2.1.tail else σ.2.1) ++ [σ.1])[i]? = some D := hi
    by_cases c8 : σ.2.1.length = 8
    · rw [if_pos c8] at hi' hkn
      have htl : σ.2.1.tail.length = 7 := by rw [List.length_tail]; omega
      by_cases c : i < 7
      · rw [List.getElem?_append_left (by omega), List.getElem?_tail] at hi'
        refine (hh (i + 1) D hi').congr (fun j hj => ?_)
        rw [q4]
        unfold hisA
        rw [hkn, if_neg (by omega), if_pos (by omega), e4]
        exact congrArg (s.2 4) (by omega)
      · have hi7 : i = 7 := by
          have := lt_of_getE hi'
          rw [List.length_append, htl] at this
          simp at this
          omega
        subst hi7
        rw [List.getElem?_append_right (by omega), htl] at hi'
        cases hi'
        refine h1.congr (fun j hj => ?_)
        rw [q4]
        unfold hisA
        rw [hkn, if_pos (by omega), ← h3 j hj]
        exact congrArg (s1.2 3) (by omega)
    · rw [if_neg c8] at hi' hkn
      by_cases c : i < σ.2.1.length
      · rw [List.getElem?_append_left c] at hi'
        refine (hh i D hi').congr (fun j hj => ?_)
        rw [q4]
        unfold hisA
        rw [hkn, if_neg (by omega), if_neg (by omega), e4]
      · have hi7 : i = σ.2.1.length := by
          have := lt_of_getE hi'
          rw [List.length_append] at this
          simp at this
          omega
        rw [List.getElem?_append_right (by omega), hi7, Nat.sub_self] at hi'
        cases hi'
        refine h1.congr (fun j hj => ?_)
        rw [q4]
        unfold hisA
        rw [hkn, if_pos (by omega), ← h3 j hj]
        exact congrArg (s1.2 3) (by omega)
  · show match σ.2.2.1 with
      | none => s1.1 6 = 0
      | some D => s1.1 6 = 1 ∧ dnAt (s1.2 2) D
    rw [hf.1 6 (by decide), hf.2 2 (by decide)]
    exact h6
  · show s1.1 10 = _ ∧ _ ∧ ∀ (i x : Nat), _ → s1.2 9 i = x ∧ _
    rw [hf.1 10 (by decide), hf.2 9 (by decide)]
    exact h10
  · show s1.1 13 = _ ∧ _ ∧ ∀ (i x : Nat), _ → s1.2 12 i = x ∧ _
    rw [hf.1 13 (by decide), hf.2 12 (by decide)]
    exact h13
  · show s1.1 7 = _ ∧ s1.1 8 = _ ∧ s1.1 11 = _ ∧ inR (s1.1 7) ∧ inR (s1.1 8) ∧ inR (s1.1 11)
    rw [hf.1 7 (by decide), hf.1 8 (by decide), hf.1 11 (by decide)]
    exact h7
end TW

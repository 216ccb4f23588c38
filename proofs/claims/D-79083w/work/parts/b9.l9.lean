/-! THE COMPONENT: displacement() (printed by gen) -/
section L9S
variable {g : GB} {M : MI} {d c k : Nat} {h : HM}
def stx (row : Bool) (u : Nat) : Int := if row then alo (u : Int) else acr (u : Int)
theorem stx_0 (row : Bool) : stx row 0 = 0 := by cases row <;> rfl
theorem stx_m {row : Bool} {u : Nat} (hu : u ≤ 4) : stx row (mirN u) = if row then stx row u else -stx row u := by
  have h : ∀ (row : Bool) (u : Fin 5), stx row (mirN u.val) = if row then stx row u.val else -stx row u.val := by decide
  exact h row ⟨u, by omega⟩
theorem stx_t {row : Bool} {u : Nat} (hu : u ≤ 4) : stx row (oppN u) = -stx row u := by
  have h : ∀ (row : Bool) (u : Fin 5), stx row (oppN u.val) = -stx row u.val := by decide
  exact h row ⟨u, by omega⟩
theorem stx_1 (row : Bool) (u : Nat) : -1 ≤ stx row u ∧ stx row u ≤ 1 := by
  unfold stx
  cases row
  · show -1 ≤ acr u ∧ acr u ≤ 1; unfold acr; split <;> (try split) <;> omega
  · show -1 ≤ alo u ∧ alo u ≤ 1; unfold alo; split <;> (try split) <;> omega
def sumI (f : Nat → Int) : Nat → Int
  | 0 => 0
  | n + 1 => sumI f n + f n
theorem sumI_congr {f h : Nat → Int} : ∀ n, (∀ k, k < n → f k = h k) → sumI f n = sumI h n := by
  intro n
  induction n with
  | zero => intro _; rfl
  | succ n ih => intro hh; show sumI f n + f n = sumI h n + h n; rw [ih (fun k hk => hh k (by omega)), hh n (by omega)]
theorem sumI_add (f h : Nat → Int) : ∀ n, sumI (fun k => f k + h k) n = sumI f n + sumI h n := by
  intro n
  induction n with
  | zero => rfl
  | succ n ih => show sumI (fun k => f k + h k) n + (f n + h n) = (sumI f n + f n) + (sumI h n + h n); rw [ih]; omega
theorem sumI_neg (f : Nat → Int) : ∀ n, sumI (fun k => -f k) n = -sumI f n := by
  intro n
  induction n with
  | zero => rfl
  | succ n ih => show sumI (fun k => -f k) n + -f n = -(sumI f n + f n); rw [ih]; omega
theorem sumI_zero : ∀ n, sumI (fun _ => 0) n = 0 := by
  intro n
  induction n with
  | zero => rfl
  | succ n ih => show sumI _ n + 0 = 0; rw [ih]; rfl
theorem sumI_ext {f : Nat → Int} {n : Nat} (h : ∀ k, n ≤ k → f k = 0) : ∀ m, n ≤ m → sumI f m = sumI f n := by
  intro m
  induction m with
  | zero => intro hm; rw [show n = 0 by omega]
  | succ m ih =>
    intro hm
    by_cases c : n = m + 1
    · rw [c]
    · show sumI f m + f m = _; rw [ih (by omega), h m (by omega)]; omega
/-- a row of numbers that stands from F on -/
theorem sumI_shift (f : Nat → Int) (F n : Nat) : ∀ m, F + n ≤ m → sumI (fun k => if F ≤ k ∧ k < F + n then f (k - F) else 0) m = sumI f n := by
  have key : ∀ n, sumI (fun k => if F ≤ k ∧ k < F + n then f (k - F) else 0) (F + n) = sumI f n := by
    intro n
    induction n with
    | zero => rw [sumI_congr (h := fun _ => 0) _ (fun k hk => if_neg (by omega)), sumI_zero]; rfl
    | succ n ih =>
      show sumI _ (F + n) + (if F ≤ F + n ∧ F + n < F + (n + 1) then f (F + n - F) else 0) = sumI f n + f n
      rw [← ih, if_pos (by omega), show F + n - F = n by omega]
      congr 1
      exact sumI_congr _ (fun k hk => by
        by_cases c : F ≤ k
        · rw [if_pos (by omega), if_pos (by omega)]
        · rw [if_neg (by omega), if_neg (by omega)])
  intro m hm
  rw [sumI_ext (n := F + n) (fun k hk => if_neg (by omega)) m hm, key n]
theorem sumI_rev : ∀ (n : Nat) (f : Nat → Int), sumI (fun k => f (n - 1 - k)) n = sumI f n := by
  have succ' : ∀ (n : Nat) (f : Nat → Int), sumI f (n + 1) = f 0 + sumI (fun k => f (k + 1)) n := by
    intro n
    induction n with
    | zero => intro f; show 0 + f 0 = f 0 + 0; omega
    | succ n ih => intro f; show sumI f (n + 1) + f (n + 1) = f 0 + (sumI _ n + f (n + 1)); rw [ih f]; omega
  intro n
  induction n with
  | zero => intro f; rfl
  | succ n ih =>
    intro f
    rw [succ']
    show f (n + 1 - 1 - 0) + _ = sumI f n + f n
    rw [show n + 1 - 1 - 0 = n by omega, ← ih f, sumI_congr (h := fun k => f (n - 1 - k)) n (fun k hk => by rw [show n + 1 - 1 - (k + 1) = n - 1 - k by omega])]
    omega
theorem mvS_sum (P : Pt) (e : Nat) (row : Bool) : ∀ n, mvS P e row n = sumI (fun k => stx row (P.2.1 e k)) n := by
  intro n
  induction n with
  | zero => rfl
  | succ n ih => show mvS P e row n + _ = sumI _ n + _; rw [ih]; rfl
/-- what a dancer moves in a part -/
def dsP (P : Pt) (e : Nat) (row : Bool) : Int := sumI (fun k => stx row (P.2.1 e k)) 99
theorem dsP_eq {P : Pt} (hn : nrP P) (h9 : P.1.1 ≤ 99) {e : Nat} (he : e < 8) (row : Bool) : dsP P e row = mvS P e row P.1.1 := by
  rw [mvS_sum]
  exact sumI_ext (fun k hk => by rw [hn.2 e k he (Or.inl hk), stx_0]) 99 h9
def dsO (O : Op) (e : Nat) (row : Bool) : Int := sumI (fun k => stx row (O.2.2.2.1 e k)) 99
theorem dsO_merge {O : Op} {P : Pt} (hO : sOk O.2.1.1 O.2.1.2.1 O.2.2.2.1) (hP : sOk P.1.1 P.1.2.1 P.2.1) (hl : mLong O P = false) (hz : ∀ e : Nat, e < 8 → P.1.2.1.testBit e = true → ∀ q : Nat, mFrom O ≤ q → q < mFrom O + P.1.1 → O.2.2.2.1 e q = 0) {e : Nat} (he : e < 8) (row : Bool) : dsO (mergeO O P) e row = dsO O e row + dsP P e row := by
  have hs : (mergeO O P).2.2.2.1 = mSteps O P := by show (if mLong O P then O.2.2.2.1 else mSteps O P) = _; rw [hl]; rfl
  have hle : mFrom O + P.1.1 ≤ 99 := by
    unfold mLong at hl
    cases hb : O.2.2.1.2 with
    | true => rw [hb] at hl; cases hl
    | false => rw [hb] at hl; simpa using hl
  unfold dsO dsP
  rw [hs]
  have e2 : sumI (fun k => stx row (P.2.1 e k)) 99 = sumI (fun k => if mFrom O ≤ k ∧ k < mFrom O + P.1.1 then (fun j => stx row (P.2.1 e j)) (k - mFrom O) else 0) 99 := by
    rw [sumI_shift (fun j => stx row (P.2.1 e j)) (mFrom O) P.1.1 99 hle]
    exact sumI_ext (fun k hk => by rw [hP e k he (Or.inl hk), stx_0]) 99 (by omega)
  rw [e2, ← sumI_add]
  refine sumI_congr _ (fun k hk => ?_)
  unfold mSteps
  dsimp only
  by_cases c : mFrom O ≤ k ∧ k < mFrom O + P.1.1
  · rw [if_pos c]
    by_cases b : P.1.2.1.testBit e = true
    · rw [if_pos ⟨c.1, c.2, b⟩, hz e he b k c.1 c.2, stx_0]; omega
    · rw [if_neg (fun q => b q.2.2), hP e _ he (Or.inr (by simpa using b)), stx_0]; omega
  · rw [if_neg c, if_neg (fun q => c ⟨q.1, q.2.1⟩)]; omega
theorem twl_nodup {ds : List Nat} (h : (twl ds).1 = 0) {i j x : Nat} (hij : i < j) (hi : ds[i]? = some x) (hj : ds[j]? = some x) : False := by
  have up : ∀ n, n ≤ ds.length → (twl (ds.take n)).1 = 0 := by
    intro n hn
    have key : ∀ m, n + m ≤ ds.length → (twl (ds.take (n + m))).1 = 0 → (twl (ds.take n)).1 = 0 := by
      intro m
      induction m with
      | zero => intro _ h; exact h
      | succ m ih =>
        intro hm h
        obtain ⟨y, hy⟩ : ∃ y, ds[n + m]? = some y := ⟨_, List.getElem?_eq_getElem (by omega)⟩
        rw [← Nat.add_assoc, twl_take hy] at h
        exact ih (by omega) (Nat.or_eq_zero_iff.mp h).1
    exact key (ds.length - n) (by omega) (by rw [show n + (ds.length - n) = ds.length by omega, List.take_length]; exact h)
  have hjl := (List.getElem?_eq_some_iff.mp hj).1
  have h1 := up (j + 1) (by omega)
  rw [twl_take hj] at h1
  have h2 := (Nat.or_eq_zero_iff.mp h1).2
  have hm : x ∈ ds.take j := List.mem_of_getElem? (i := i) (by rw [List.getElem?_take]; rw [if_pos hij]; exact hi)
  have h3 := orD_bit hm
  rw [orD_eq] at h3
  have h4 : ((twl (ds.take j)).2 &&& 1 <<< x).testBit x = true := by rw [Nat.testBit_and, h3, Nat.testBit_shiftLeft]; simp
  rw [h2, Nat.zero_testBit] at h4
  cases h4
theorem lst_none {off : Nat} {dl sl : List Nat} {x k : Nat} : ∀ n, n ≤ dl.length → (∀ j, j < n → dl[j]? ≠ some x) → lst off dl sl n x k = 0 := by
  intro n
  induction n with
  | zero => intro _ _; rfl
  | succ n ih =>
    intro hn h
    unfold lst
    obtain ⟨y, hy⟩ : ∃ y, dl[n]? = some y := ⟨_, List.getElem?_eq_getElem (by omega)⟩
    rw [if_neg (fun q => h n (by omega) (by rw [hy, q.1, List.getD_eq_getElem?_getD, hy]; rfl))]
    exact ih (by omega) (fun j hj => h j (by omega))
theorem lst_one {off : Nat} {dl sl : List Nat} (hd : ∀ i j x : Nat, i < j → dl[i]? = some x → dl[j]? = some x → False) {i x : Nat} (hi : dl[i]? = some x) (k : Nat) : ∀ n, i < n → n ≤ dl.length → lst off dl sl n x k = if off * i ≤ k ∧ k < off * i + sl.length then sl.getD (k - off * i) 0 else 0 := by
  intro n
  induction n with
  | zero => intro h; omega
  | succ n ih =>
    intro h hn
    unfold lst
    by_cases c : i = n
    · subst c
      have hg : dl.getD i 0 = x := by rw [List.getD_eq_getElem?_getD, hi]; rfl
      by_cases q : off * i ≤ k ∧ k < off * i + sl.length
      · rw [if_pos ⟨hg.symm, q⟩, if_pos q]
      · rw [if_neg (fun r => q r.2), if_neg q]
        exact lst_none i (by omega) (fun j hj e => hd j i x hj e hi)
    · obtain ⟨y, hy⟩ : ∃ y, dl[n]? = some y := ⟨_, List.getElem?_eq_getElem (by omega)⟩
      rw [if_neg (fun q => hd i n x (by omega) hi (by rw [hy, q.1, List.getD_eq_getElem?_getD, hy]; rfl))]
      exact ih (by omega) (by omega)
theorem ds_leaf {off : Nat} {dl sl : List Nat} {x : Nat} (row : Bool) (ht : (twl dl).1 = 0) (hl : sl.length + off * (dl.length - 1) ≤ 99) (h8 : ∀ x ∈ dl, x < 8) (hx : x < 8) : sumI (fun k => stx row (lst off dl sl dl.length x k)) 99 = if (twl dl).2.testBit x then sumI (fun j => stx row (sl.getD j 0)) sl.length else 0 := by
  by_cases hm : x ∈ dl
  · obtain ⟨i, hi⟩ := List.getElem?_of_mem hm
    have hil := (List.getElem?_eq_some_iff.mp hi).1
    rw [if_pos (by rw [← orD_eq]; exact orD_bit hm)]
    have hoff : off * i ≤ off * (dl.length - 1) := Nat.mul_le_mul_left _ (by omega)
    rw [← sumI_shift (fun j => stx row (sl.getD j 0)) (off * i) sl.length 99 (by omega)]
    refine sumI_congr _ (fun k hk => ?_)
    rw [lst_one (fun i j x h a b => twl_nodup ht h a b) hi k dl.length hil (Nat.le_refl _)]
    split
    · rfl
    · exact stx_0 row
  · have hb : ¬ (twl dl).2.testBit x = true := fun q => by
      have := (twl_used dl (fun i hi => by rw [List.getD_eq_getElem?_getD, List.getElem?_eq_getElem hi]; exact h8 _ (List.getElem_mem hi)) dl.length (Nat.le_refl _) x hx).mp (by rw [List.take_length]; exact q)
      obtain ⟨i, hi, he⟩ := this
      rw [List.getD_eq_getElem?_getD, List.getElem?_eq_getElem hi] at he
      exact hm (he ▸ List.getElem_mem hi)
    rw [if_neg hb]
    have hz : ∀ k, lst off dl sl dl.length x k = 0 := fun k => lst_none dl.length (Nat.le_refl _) (fun j hj e => hm (List.mem_of_getElem? e))
    rw [sumI_congr (h := fun _ => 0) 99 (fun k _ => by rw [hz k]; exact stx_0 row)]
    exact sumI_zero _
end L9S

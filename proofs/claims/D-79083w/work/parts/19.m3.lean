/-! the reference: a leaf (printed by gen) -/
section M3
variable {g : GB} {M : MI} {d c k : Nat} {Q : RS → HM → Prop} {pc : Nat} {ls : List (Option Value)} {st : List Value} {h : HM} {a b : Int} {ad : Nat → Nat} {o : Nat} {h0 : HM} {s : MSt}
/-- all else is as before -/
def fr (s s' : MSt) (K J : List Nat) : Prop := (∀ k, k ∉ K → s'.1 k = s.1 k) ∧ ∀ j, j ∉ J → s'.2 j = s.2 j
theorem fr.refl (s : MSt) (K J : List Nat) : fr s s K J := ⟨fun _ _ => rfl, fun _ _ => rfl⟩
theorem fr.trans {s s1 s2 : MSt} {K J : List Nat} (a : fr s s1 K J) (b : fr s1 s2 K J) : fr s s2 K J := ⟨fun k hk => (b.1 k hk).trans (a.1 k hk), fun j hj => (b.2 j hj).trans (a.2 j hj)⟩
theorem fr.more {s s1 : MSt} {K J K' J' : List Nat} (a : fr s s1 K J) (hK : K.all (fun x => K'.contains x) = true) (hJ : J.all (fun x => J'.contains x) = true) : fr s s1 K' J' := by
  refine ⟨fun k hk => a.1 k (fun q => hk ?_), fun j hj => a.2 j (fun q => hj ?_)⟩
  · have := List.all_eq_true.mp hK k q
    simpa using this
  · have := List.all_eq_true.mp hJ j q
    simpa using this
theorem fr.S {s s1 : MSt} {K J : List Nat} (a : fr s s1 K J) {k : Nat} {x : Int} (hk : K.contains k = true) : fr s (uS s1 k x) K J := by
  refine ⟨fun k' hk' => ?_, a.2⟩
  rw [uS_1, if_neg (fun q => hk' (by subst q; simpa using hk))]
  exact a.1 k' hk'
theorem fr.F {s s1 : MSt} {K J : List Nat} (a : fr s s1 K J) {k : Nat} {A : Nat → Int} (hk : J.contains k = true) : fr s (uF s1 k A) K J := by
  refine ⟨a.1, fun k' hk' => ?_⟩
  rw [uF_2, if_neg (fun q => hk' (by subst q; simpa using hk))]
  exact a.2 k' hk'
theorem fr.A {s s1 : MSt} {K J : List Nat} (a : fr s s1 K J) {k i : Nat} {x : Int} (hk : J.contains k = true) : fr s (uA s1 k i x) K J := by
  refine ⟨a.1, fun k' hk' => ?_⟩
  rw [uA_2, if_neg (fun q => hk' (by subst q; simpa using hk))]
  exact a.2 k' hk'
theorem uA_uF (s : MSt) (k i : Nat) (A : Nat → Int) (x : Int) : uA (uF s k A) k i x = uF s k (uz A i x) := by
  unfold uA uF
  congr 1
  funext j
  simp only [uz]
  split
  · rfl
  · rfl
theorem uF_self (s : MSt) (k : Nat) : uF s k (s.2 k) = s := by
  unfold uF
  have : uz s.2 k (s.2 k) = s.2 := by funext j; unfold uz; split <;> simp_all
  rw [this]
def ptAt (s : MSt) (P : Pt) : Prop := s.1 17 = P.1.1 ∧ s.1 18 = P.1.2.1 ∧ s.1 19 = P.1.2.2.1 ∧ s.1 20 = P.1.2.2.2 ∧ (∀ d k : Nat, d < 8 → k < 100 → s.2 21 (100 * d + k) = P.2.1 d k) ∧ ∀ k : Nat, k < 100 → s.2 22 k = P.2.2 k
def meAt (s : MSt) (v : Me) : Prop := match v with
  | .error e => s.1 15 = e.1 ∧ s.1 16 = e.2
  | .ok P => s.1 15 = 0 ∧ ptAt s P
def ndOk (nd : Nd) : Prop := nd.1 ≤ 7 ∧ nd.2.1 ≤ 9 ∧ nd.2.2.1 ≤ 1100 ∧ (nd.1 ≤ 1 → 1 ≤ nd.2.2.2.1.length ∧ 1 ≤ nd.2.2.2.2.length ∧ (∀ i, i < nd.2.2.2.1.length → nd.2.2.2.1.getD i 0 < 8) ∧ ∀ i, i < nd.2.2.2.2.length → nd.2.2.2.2.getD i 0 ≤ 4)
def ndAt (A : Nat → Int) (n : Nat) (nd : Nd) : Prop := A (45 + 6 * n) = nd.1 ∧ A (45 + 6 * n + 1) = nd.2.1 ∧ A (45 + 6 * n + 2) = nd.2.2.1 ∧ (nd.1 ≤ 1 → ∃ p : Nat, A (45 + 6 * n + 3) = p ∧ A (45 + 6 * n + 4) = nd.2.2.2.1.length ∧ A (45 + 6 * n + 5) = nd.2.2.2.2.length ∧ p + nd.2.2.2.1.length + nd.2.2.2.2.length ≤ 2000 ∧ (∀ i, i < nd.2.2.2.1.length → A (6645 + (p + i)) = nd.2.2.2.1.getD i 0) ∧ ∀ i, i < nd.2.2.2.2.length → A (6645 + (p + nd.2.2.2.1.length + i)) = nd.2.2.2.2.getD i 0)
theorem twl_succ (ds : List Nat) {i : Nat} (hi : i < ds.length) : twl (ds.take (i + 1)) = ((twl (ds.take i)).1 ||| ((twl (ds.take i)).2 &&& 1 <<< ds.getD i 0), (twl (ds.take i)).2 ||| 1 <<< ds.getD i 0) := by
  unfold twl
  rw [List.take_add_one, List.getElem?_eq_getElem hi, List.foldl_append]
  simp [List.getD_eq_getElem?_getD, List.getElem?_eq_getElem hi]
theorem twl_lt (ds : List Nat) (h : ∀ i, i < ds.length → ds.getD i 0 < 8) : ∀ i, i ≤ ds.length → (twl (ds.take i)).1 < 256 ∧ (twl (ds.take i)).2 < 256 := by
  intro i
  induction i with
  | zero => intro _; simp [twl]
  | succ i ih =>
    intro hi
    have q := ih (by omega)
    rw [twl_succ ds (by omega)]
    exact ⟨or_lt q.1 (and_lt q.2), or_lt q.2 (shl_lt (h i (by omega)))⟩

set_option maxRecDepth 100000 in
set_option maxHeartbeats 4000000 in
theorem k_leaf {n : Nat} {nd : Nd} (hd : 4 ≤ d) (hM : MX g ad o h0 s h) (hn : n < 1100) (hA : ndAt (s.2 1) n nd) (hO : ndOk nd) (h2 : nd.1 ≤ 2) (hw : s.1 15 = 0) : Kc g mX3_leaf d 0 0 [.ref o, vz (n : Int)] h (mP g ad o h0 (fun v s' => v = none ∧ fr s s' [15, 16, 17, 18, 19, 20] [21, 22] ∧ meAt s' (leafE nd))) := by
  refine Kc.of (ls := [some (.ref o), some (vz (n : Int)), none, none, none, none, none]) (by decide +kernel) (Nat.le_of_ble_eq_true rfl) rfl ?_
  refine ev_aload_n dX3_leaf_0 rfl ?_
  refine mx_callv dX3_leaf_1 cv_X3_159_X3 ce_X3_empties hM rfl rfl (k_empties (d := d - 1) (by omega) hM) (by omega) (Nat.le_of_ble_eq_true rfl) (fun h hM => ?_)
  obtain ⟨s1, hs1, hM⟩ := MX.nm hM
  have hfr1 : fr s s1 [15, 16, 17, 18, 19, 20] [21, 22] := by subst hs1; unfold empS; exact fr.F (fr.F (fr.S (fr.S (fr.S (fr.S (fr.refl _ _ _) rfl) rfl) rfl) rfl) rfl) rfl
  have hw1 : s1.1 15 = 0 := by subst hs1; exact hw
  have hz17 : s1.1 17 = 0 := by subst hs1; rfl
  have hz18 : s1.1 18 = 0 := by subst hs1; rfl
  have hz19 : s1.1 19 = 1 := by subst hs1; rfl
  have hz20 : s1.1 20 = 0 := by subst hs1; rfl
  have hz21 : ∀ e q : Nat, e < 8 → q < 100 → s1.2 21 (100 * e + q) = 0 := by subst hs1; intro e q _ _; rfl
  have hz22 : ∀ q : Nat, q < 100 → s1.2 22 q = 0 := by subst hs1; intro q _; rfl
  clear hs1
  have hA1 : s1.2 1 = s.2 1 := hfr1.2 1 (by decide)
  refine ev_aload_n dX3_leaf_4 rfl ?_
  refine ev_iload_n dX3_leaf_5 rfl ?_
  refine mx_call dX3_leaf_6 cv_X3_162_X3 ce_X3_kind hM rfl rfl (k_kindN (n := n) (x := (nd.1 : Int)) (d := d - 1) (by omega) hM (by omega) (by rw [hA1]; exact hA.1)) (by omega) (Nat.le_of_ble_eq_true rfl) (fun h hM => ?_)
  refine ev_iconstZ dX3_leaf_9 ?_
  refine ev_icmp_neZ (tgt := 26) dX3_leaf_10 (by decide) (by omega) (by omega) (fun c10 => ?_) (fun c10 => ?_)
  · have hc10 : ¬ nd.1 = 2 := fun q => c10 (by omega)
    have hk1 : nd.1 ≤ 1 := by omega
    obtain ⟨hd1, hd2, hd8, hst4⟩ := hO.2.2.2 hk1
    obtain ⟨p, hp1, hp2, hp3, hp4, hp5, hp6⟩ := hA.2.2.2 hk1
    have hO1 := hO.2.1
    have htb := twl_lt nd.2.2.2.1 hd8 nd.2.2.2.1.length (Nat.le_refl _)
    rw [List.take_length] at htb
    have hoff9 : offN nd ≤ 9 := by unfold offN; split <;> omega
    have hlz : lsz nd ≤ 20000 := by unfold lsz; have := Nat.mul_le_mul hoff9 (show nd.2.2.2.1.length - 1 ≤ 2000 by omega); omega
    have T150 : ∀ (s3 : MSt) (h : HM), MX g ad o h0 s3 h → fr s s3 [15, 16, 17, 18, 19, 20] [21, 22] → s3.1 15 = 0 → (twl nd.2.2.2.1).1 = 0 → lsz nd ≤ 99 → s3.1 17 = (lsz nd : Nat) → s3.1 18 = ((twl nd.2.2.2.1).2 : Nat) → s3.1 19 = 1 → s3.1 20 = 0 → (∀ e q : Nat, e < 8 → q < 100 → s3.2 21 (100 * e + q) = 0) → (∀ q : Nat, q < 100 → s3.2 22 q = 0) → Ev g mX3_leaf d 0 0 (mP g ad o h0 (fun v s' => v = none ∧ fr s s' [15, 16, 17, 18, 19, 20] [21, 22] ∧ meAt s' (leafE nd))) 150 [some (.ref o), some (vz (n : Int)), none, none, none, none, none] [] h := by
      intro s3 h hM hfr3 hy htw hls hz17 hz18 hz19 hz20 hz21 hz22
      have hA1 : s3.2 1 = s.2 1 := hfr3.2 1 (by decide)
      rw [← hA1] at hA hp1 hp2 hp3 hp5 hp6
      have hls2 := hls
      unfold lsz at hls
      refine ev_iconstZ dX3_leaf_150 ?_
      refine ev_istore_n dX3_leaf_151 (by decide) rfl ?_
      dsimp only [List.set]
      refine ev_for nd.2.2.2.1.length (fun i h => ∃ A : Nat → Int, MX g ad o h0 (uF s3 21 A) h ∧ ∀ e q : Nat, e < 8 → q < 100 → A (100 * e + q) = (lst (offN nd) nd.2.2.2.1 nd.2.2.2.2 i e q : Nat)) (fun i => [some (.ref o), some (vz (n : Int)), none, some (vz (i : Int)), none, none, none]) 0 (by omega) (by refine ⟨s3.2 21, by rw [uF_self]; exact hM, fun e q he hq => ?_⟩; rw [hz21 e q he hq]; rfl) (by repeat' first | exact rfl | exact trivial | exact vz_eq (by omega) | refine And.intro ?_ ?_) (fun i h hi1 hi2 hX hN => ?_) (fun h hX => ?_)
      · clear hM
        obtain ⟨A, hM, hA3⟩ := hX
        have hi3 : offN nd * i ≤ offN nd * (nd.2.2.2.1.length - 1) := Nat.mul_le_mul_left _ (by omega)
        have hdi := hd8 i hi2
        refine ev_iload_n dX3_leaf_152 rfl ?_
        refine ev_aload_n dX3_leaf_153 rfl ?_
        refine ev_iload_n dX3_leaf_154 rfl ?_
        refine ev_iconstZ dX3_leaf_155 ?_
        refine mx_call dX3_leaf_156 cv_X3_133_X3 ce_X3_of hM rfl rfl (k_ofN (n := n) (w := 4) (x := (nd.2.2.2.1.length : Int)) (d := d - 1) (by omega) hM (by omega) (by simp only [uS_2, uF_2a, Nat.reduceEqDiff, reduceIte]; exact hp2)) (by omega) (Nat.le_of_ble_eq_true rfl) (fun h hM => ?_)
        refine ev_icmp_geZ (tgt := 268) dX3_leaf_159 (by decide) (by omega) (by omega) (fun c159 => absurd c159 (by omega)) (fun c159 => ?_)
        refine ev_aload_n dX3_leaf_162 rfl ?_
        refine mx_getI hM dX3_leaf_163 gf_X3_153_X3 rfl ?_
        try simp only [uS_1, uA_1, uF_1, uS_2, uA_2a, uF_2a, Nat.reduceEqDiff, reduceIte, Int.reduceToNat, Int.toNat_natCast]
        refine ev_if_neZ (tgt := 268) dX3_leaf_166 (by decide) (by omega) (fun c166 => absurd hy c166) (fun c166 => ?_)
        refine ev_aload_n dX3_leaf_169 rfl ?_
        refine ev_aload_n dX3_leaf_170 rfl ?_
        refine ev_iload_n dX3_leaf_171 rfl ?_
        refine ev_iconstZ dX3_leaf_172 ?_
        refine mx_call dX3_leaf_173 cv_X3_133_X3 ce_X3_of hM rfl rfl (k_ofN (n := n) (w := 3) (x := (p : Int)) (d := d - 1) (by omega) hM (by omega) (by simp only [uS_2, uF_2a, Nat.reduceEqDiff, reduceIte]; exact hp1)) (by omega) (Nat.le_of_ble_eq_true rfl) (fun h hM => ?_)
        refine ev_iload_n dX3_leaf_176 rfl ?_
        refine ev_iaddZ dX3_leaf_177 ?_
        refine ev_to (b := ((p + i : Nat) : Int)) (by omega) ?_
        refine mx_call dX3_leaf_178 cv_X3_165_X3 ce_X3_data hM rfl rfl (k_dataN (n := p + i) (x := (nd.2.2.2.1.getD i 0 : Int)) (d := d - 1) (by omega) hM (by omega) (by simp only [uS_2, uF_2a, Nat.reduceEqDiff, reduceIte]; exact hp5 i hi2)) (by omega) (Nat.le_of_ble_eq_true rfl) (fun h hM => ?_)
        refine ev_istore dX3_leaf_181 (by decide) rfl ?_
        dsimp only [List.set]
        refine ev_aload_n dX3_leaf_183 rfl ?_
        refine ev_iload_n dX3_leaf_184 rfl ?_
        refine mx_call dX3_leaf_185 cv_X3_162_X3 ce_X3_kind hM rfl rfl (k_kindN (n := n) (x := (nd.1 : Int)) (d := d - 1) (by omega) hM (by omega) (by simp only [uS_2, uF_2a, Nat.reduceEqDiff, reduceIte]; exact hA.1)) (by omega) (Nat.le_of_ble_eq_true rfl) (fun h hM => ?_)
        refine ev_iconstZ dX3_leaf_188 ?_
        refine ev_icmp_neZ (tgt := 203) dX3_leaf_189 (by decide) (by omega) (by omega) (fun c189 => ?_) (fun c189 => ?_)
        · have hoff : offN nd = 0 := by unfold offN; exact if_neg (fun q => c189 (by omega))
          refine ev_iconstZ dX3_leaf_203 ?_
          refine ev_to (b := ((offN nd * i : Nat) : Int)) (by rw [hoff]; simp) ?_
          refine ev_istore dX3_leaf_204 (by decide) rfl ?_
          dsimp only [List.set]
          refine ev_iconstZ dX3_leaf_206 ?_
          refine ev_istore dX3_leaf_207 (by decide) rfl ?_
          dsimp only [List.set]
          refine ev_for nd.2.2.2.2.length (fun j h => ∃ A : Nat → Int, MX g ad o h0 (uF s3 21 A) h ∧ ∀ e q : Nat, e < 8 → q < 100 → A (100 * e + q) = (if e = nd.2.2.2.1.getD i 0 ∧ offN nd * i ≤ q ∧ q < offN nd * i + j then nd.2.2.2.2.getD (q - offN nd * i) 0 else lst (offN nd) nd.2.2.2.1 nd.2.2.2.2 i e q : Nat)) (fun j => [some (.ref o), some (vz (n : Int)), none, some (vz (i : Int)), some (vz ((nd.2.2.2.1.getD i 0 : Nat) : Int)), some (vz (((offN nd * i : Nat)) : Int)), some (vz (j : Int))]) 0 (by omega) (by refine ⟨A, hM, fun e q he hq => ?_⟩; rw [hA3 e q he hq, if_neg (by omega)]) (by repeat' first | exact rfl | exact trivial | exact vz_eq (by omega) | refine And.intro ?_ ?_) (fun j h hj1 hj2 hX hN2 => ?_) (fun h hX => ?_)
          · clear hM hA3
            obtain ⟨A, hM, hA3⟩ := hX
            refine ev_iload dX3_leaf_209 rfl ?_
            refine ev_aload_n dX3_leaf_211 rfl ?_
            refine ev_iload_n dX3_leaf_212 rfl ?_
            refine ev_iconstZ dX3_leaf_213 ?_
            refine mx_call dX3_leaf_214 cv_X3_133_X3 ce_X3_of hM rfl rfl (k_ofN (n := n) (w := 5) (x := (nd.2.2.2.2.length : Int)) (d := d - 1) (by omega) hM (by omega) (by simp only [uS_2, uF_2a, Nat.reduceEqDiff, reduceIte]; exact hp3)) (by omega) (Nat.le_of_ble_eq_true rfl) (fun h hM => ?_)
            refine ev_icmp_geZ (tgt := 262) dX3_leaf_217 (by decide) (by omega) (by omega) (fun c217 => absurd c217 (by omega)) (fun c217 => ?_)
            refine ev_aload_n dX3_leaf_220 rfl ?_
            refine mx_getA hM dX3_leaf_221 gf_X3_36_X3 rfl ?_
            refine ev_bipushZ dX3_leaf_224 rfl ?_
            refine ev_iload dX3_leaf_226 rfl ?_
            refine ev_imulZ dX3_leaf_228 ?_
            refine ev_iload dX3_leaf_229 rfl ?_
            refine ev_iaddZ dX3_leaf_231 ?_
            refine ev_iload dX3_leaf_232 rfl ?_
            refine ev_iaddZ dX3_leaf_234 ?_
            refine ev_to (b := ((100 * nd.2.2.2.1.getD i 0 + offN nd * i + j : Nat) : Int)) (by omega) ?_
            refine ev_aload_n dX3_leaf_235 rfl ?_
            refine ev_aload_n dX3_leaf_236 rfl ?_
            refine ev_iload_n dX3_leaf_237 rfl ?_
            refine ev_iconstZ dX3_leaf_238 ?_
            refine mx_call dX3_leaf_239 cv_X3_133_X3 ce_X3_of hM rfl rfl (k_ofN (n := n) (w := 3) (x := (p : Int)) (d := d - 1) (by omega) hM (by omega) (by simp only [uS_2, uF_2a, Nat.reduceEqDiff, reduceIte]; exact hp1)) (by omega) (Nat.le_of_ble_eq_true rfl) (fun h hM => ?_)
            refine ev_aload_n dX3_leaf_242 rfl ?_
            refine ev_iload_n dX3_leaf_243 rfl ?_
            refine ev_iconstZ dX3_leaf_244 ?_
            refine mx_call dX3_leaf_245 cv_X3_133_X3 ce_X3_of hM rfl rfl (k_ofN (n := n) (w := 4) (x := (nd.2.2.2.1.length : Int)) (d := d - 1) (by omega) hM (by omega) (by simp only [uS_2, uF_2a, Nat.reduceEqDiff, reduceIte]; exact hp2)) (by omega) (Nat.le_of_ble_eq_true rfl) (fun h hM => ?_)
            refine ev_iaddZ dX3_leaf_248 ?_
            refine ev_iload dX3_leaf_249 rfl ?_
            refine ev_iaddZ dX3_leaf_251 ?_
            refine ev_to (b := ((p + nd.2.2.2.1.length + j : Nat) : Int)) (by omega) ?_
            refine mx_call dX3_leaf_252 cv_X3_165_X3 ce_X3_data hM rfl rfl (k_dataN (n := p + nd.2.2.2.1.length + j) (x := (nd.2.2.2.2.getD j 0 : Int)) (d := d - 1) (by omega) hM (by omega) (by simp only [uS_2, uF_2a, Nat.reduceEqDiff, reduceIte]; exact hp6 j hj2)) (by omega) (Nat.le_of_ble_eq_true rfl) (fun h hM => ?_)
            refine mx_iast hM rfl dX3_leaf_255 (by omega) (fun h hM => ?_)
            rw [uA_uF, Int.toNat_natCast] at hM
            refine ev_iincZ dX3_leaf_256 rfl (by decide) rfl ?_
            dsimp only [List.set]
            refine ev_goto (tgt := 209) dX3_leaf_259 (by decide) ?_
            exact hN2 _ _ (by repeat' first | exact rfl | exact trivial | exact vz_eq (by omega) | refine And.intro ?_ ?_) ⟨_, hM, fun e q he hq => by have hA4 := hA3 e q he hq; have := hd8 i hi2; unfold uz; grind (splits := 20)⟩
          · clear hM hA3
            obtain ⟨A, hM, hA3⟩ := hX
            refine ev_iload dX3_leaf_209 rfl ?_
            refine ev_aload_n dX3_leaf_211 rfl ?_
            refine ev_iload_n dX3_leaf_212 rfl ?_
            refine ev_iconstZ dX3_leaf_213 ?_
            refine mx_call dX3_leaf_214 cv_X3_133_X3 ce_X3_of hM rfl rfl (k_ofN (n := n) (w := 5) (x := (nd.2.2.2.2.length : Int)) (d := d - 1) (by omega) hM (by omega) (by simp only [uS_2, uF_2a, Nat.reduceEqDiff, reduceIte]; exact hp3)) (by omega) (Nat.le_of_ble_eq_true rfl) (fun h hM => ?_)
            refine ev_icmp_geZ (tgt := 262) dX3_leaf_217 (by decide) (by omega) (by omega) (fun c217 => ?_) (fun c217 => absurd (by omega) c217)
            refine ev_iincZ dX3_leaf_262 rfl (by decide) rfl ?_
            dsimp only [List.set]
            refine ev_goto (tgt := 152) dX3_leaf_265 (by decide) ?_
            exact hN _ _ (by repeat' first | exact rfl | exact trivial | exact vz_eq (by omega) | refine And.intro ?_ ?_) ⟨_, hM, fun e q he hq => by rw [hA3 e q he hq]; rfl⟩
        · have hoff : offN nd = nd.2.1 := by unfold offN; exact if_pos (by omega)
          refine ev_aload_n dX3_leaf_192 rfl ?_
          refine ev_iload_n dX3_leaf_193 rfl ?_
          refine ev_iconstZ dX3_leaf_194 ?_
          refine mx_call dX3_leaf_195 cv_X3_133_X3 ce_X3_of hM rfl rfl (k_ofN (n := n) (w := 1) (x := (nd.2.1 : Int)) (d := d - 1) (by omega) hM (by omega) (by simp only [uS_2, uF_2a, Nat.reduceEqDiff, reduceIte]; exact hA.2.1)) (by omega) (Nat.le_of_ble_eq_true rfl) (fun h hM => ?_)
          refine ev_iload_n dX3_leaf_198 rfl ?_
          refine ev_imulZ dX3_leaf_199 ?_
          refine ev_to (b := ((offN nd * i : Nat) : Int)) (by rw [hoff]; push_cast; rfl) ?_
          refine ev_goto (tgt := 204) dX3_leaf_200 (by decide) ?_
          refine ev_istore dX3_leaf_204 (by decide) rfl ?_
          dsimp only [List.set]
          refine ev_iconstZ dX3_leaf_206 ?_
          refine ev_istore dX3_leaf_207 (by decide) rfl ?_
          dsimp only [List.set]
          refine ev_for nd.2.2.2.2.length (fun j h => ∃ A : Nat → Int, MX g ad o h0 (uF s3 21 A) h ∧ ∀ e q : Nat, e < 8 → q < 100 → A (100 * e + q) = (if e = nd.2.2.2.1.getD i 0 ∧ offN nd * i ≤ q ∧ q < offN nd * i + j then nd.2.2.2.2.getD (q - offN nd * i) 0 else lst (offN nd) nd.2.2.2.1 nd.2.2.2.2 i e q : Nat)) (fun j => [some (.ref o), some (vz (n : Int)), none, some (vz (i : Int)), some (vz ((nd.2.2.2.1.getD i 0 : Nat) : Int)), some (vz (((offN nd * i : Nat)) : Int)), some (vz (j : Int))]) 0 (by omega) (by refine ⟨A, hM, fun e q he hq => ?_⟩; rw [hA3 e q he hq, if_neg (by omega)]) (by repeat' first | exact rfl | exact trivial | exact vz_eq (by omega) | refine And.intro ?_ ?_) (fun j h hj1 hj2 hX hN2 => ?_) (fun h hX => ?_)
          · clear hM hA3
            obtain ⟨A, hM, hA3⟩ := hX
            refine ev_iload dX3_leaf_209 rfl ?_
            refine ev_aload_n dX3_leaf_211 rfl ?_
            refine ev_iload_n dX3_leaf_212 rfl ?_
            refine ev_iconstZ dX3_leaf_213 ?_
            refine mx_call dX3_leaf_214 cv_X3_133_X3 ce_X3_of hM rfl rfl (k_ofN (n := n) (w := 5) (x := (nd.2.2.2.2.length : Int)) (d := d - 1) (by omega) hM (by omega) (by simp only [uS_2, uF_2a, Nat.reduceEqDiff, reduceIte]; exact hp3)) (by omega) (Nat.le_of_ble_eq_true rfl) (fun h hM => ?_)
            refine ev_icmp_geZ (tgt := 262) dX3_leaf_217 (by decide) (by omega) (by omega) (fun c217 => absurd c217 (by omega)) (fun c217 => ?_)
            refine ev_aload_n dX3_leaf_220 rfl ?_
            refine mx_getA hM dX3_leaf_221 gf_X3_36_X3 rfl ?_
            refine ev_bipushZ dX3_leaf_224 rfl ?_
            refine ev_iload dX3_leaf_226 rfl ?_
            refine ev_imulZ dX3_leaf_228 ?_
            refine ev_iload dX3_leaf_229 rfl ?_
            refine ev_iaddZ dX3_leaf_231 ?_
            refine ev_iload dX3_leaf_232 rfl ?_
            refine ev_iaddZ dX3_leaf_234 ?_
            refine ev_to (b := ((100 * nd.2.2.2.1.getD i 0 + offN nd * i + j : Nat) : Int)) (by omega) ?_
            refine ev_aload_n dX3_leaf_235 rfl ?_
            refine ev_aload_n dX3_leaf_236 rfl ?_
            refine ev_iload_n dX3_leaf_237 rfl ?_
            refine ev_iconstZ dX3_leaf_238 ?_
            refine mx_call dX3_leaf_239 cv_X3_133_X3 ce_X3_of hM rfl rfl (k_ofN (n := n) (w := 3) (x := (p : Int)) (d := d - 1) (by omega) hM (by omega) (by simp only [uS_2, uF_2a, Nat.reduceEqDiff, reduceIte]; exact hp1)) (by omega) (Nat.le_of_ble_eq_true rfl) (fun h hM => ?_)
            refine ev_aload_n dX3_leaf_242 rfl ?_
            refine ev_iload_n dX3_leaf_243 rfl ?_
            refine ev_iconstZ dX3_leaf_244 ?_
            refine mx_call dX3_leaf_245 cv_X3_133_X3 ce_X3_of hM rfl rfl (k_ofN (n := n) (w := 4) (x := (nd.2.2.2.1.length : Int)) (d := d - 1) (by omega) hM (by omega) (by simp only [uS_2, uF_2a, Nat.reduceEqDiff, reduceIte]; exact hp2)) (by omega) (Nat.le_of_ble_eq_true rfl) (fun h hM => ?_)
            refine ev_iaddZ dX3_leaf_248 ?_
            refine ev_iload dX3_leaf_249 rfl ?_
            refine ev_iaddZ dX3_leaf_251 ?_
            refine ev_to (b := ((p + nd.2.2.2.1.length + j : Nat) : Int)) (by omega) ?_
            refine mx_call dX3_leaf_252 cv_X3_165_X3 ce_X3_data hM rfl rfl (k_dataN (n := p + nd.2.2.2.1.length + j) (x := (nd.2.2.2.2.getD j 0 : Int)) (d := d - 1) (by omega) hM (by omega) (by simp only [uS_2, uF_2a, Nat.reduceEqDiff, reduceIte]; exact hp6 j hj2)) (by omega) (Nat.le_of_ble_eq_true rfl) (fun h hM => ?_)
            refine mx_iast hM rfl dX3_leaf_255 (by omega) (fun h hM => ?_)
            rw [uA_uF, Int.toNat_natCast] at hM
            refine ev_iincZ dX3_leaf_256 rfl (by decide) rfl ?_
            dsimp only [List.set]
            refine ev_goto (tgt := 209) dX3_leaf_259 (by decide) ?_
            exact hN2 _ _ (by repeat' first | exact rfl | exact trivial | exact vz_eq (by omega) | refine And.intro ?_ ?_) ⟨_, hM, fun e q he hq => by have hA4 := hA3 e q he hq; have := hd8 i hi2; unfold uz; grind (splits := 20)⟩
          · clear hM hA3
            obtain ⟨A, hM, hA3⟩ := hX
            refine ev_iload dX3_leaf_209 rfl ?_
            refine ev_aload_n dX3_leaf_211 rfl ?_
            refine ev_iload_n dX3_leaf_212 rfl ?_
            refine ev_iconstZ dX3_leaf_213 ?_
            refine mx_call dX3_leaf_214 cv_X3_133_X3 ce_X3_of hM rfl rfl (k_ofN (n := n) (w := 5) (x := (nd.2.2.2.2.length : Int)) (d := d - 1) (by omega) hM (by omega) (by simp only [uS_2, uF_2a, Nat.reduceEqDiff, reduceIte]; exact hp3)) (by omega) (Nat.le_of_ble_eq_true rfl) (fun h hM => ?_)
            refine ev_icmp_geZ (tgt := 262) dX3_leaf_217 (by decide) (by omega) (by omega) (fun c217 => ?_) (fun c217 => absurd (by omega) c217)
            refine ev_iincZ dX3_leaf_262 rfl (by decide) rfl ?_
            dsimp only [List.set]
            refine ev_goto (tgt := 152) dX3_leaf_265 (by decide) ?_
            exact hN _ _ (by repeat' first | exact rfl | exact trivial | exact vz_eq (by omega) | refine And.intro ?_ ?_) ⟨_, hM, fun e q he hq => by rw [hA3 e q he hq]; rfl⟩
      · clear hM
        obtain ⟨A, hM, hA3⟩ := hX
        refine ev_iload_n dX3_leaf_152 rfl ?_
        refine ev_aload_n dX3_leaf_153 rfl ?_
        refine ev_iload_n dX3_leaf_154 rfl ?_
        refine ev_iconstZ dX3_leaf_155 ?_
        refine mx_call dX3_leaf_156 cv_X3_133_X3 ce_X3_of hM rfl rfl (k_ofN (n := n) (w := 4) (x := (nd.2.2.2.1.length : Int)) (d := d - 1) (by omega) hM (by omega) (by simp only [uS_2, uF_2a, Nat.reduceEqDiff, reduceIte]; exact hp2)) (by omega) (Nat.le_of_ble_eq_true rfl) (fun h hM => ?_)
        refine ev_icmp_geZ (tgt := 268) dX3_leaf_159 (by decide) (by omega) (by omega) (fun c159 => ?_) (fun c159 => absurd (by omega) c159)
        refine ev_return dX3_leaf_268 rfl ?_
        exact ⟨none, _, rfl, ⟨rfl, fr.F hfr3 rfl, by unfold leafE; rw [if_neg (by omega), if_neg (by omega), if_neg (by omega)]; exact ⟨hy, hz17, hz18, hz19, hz20, fun e q he hq => by rw [uF_2a, if_pos rfl]; exact hA3 e q he hq, fun q hq => by rw [uF_2a, if_neg (by decide)]; exact hz22 q hq⟩⟩, hM⟩
    have TE : ∀ (s3 : MSt) (h : HM), MX g ad o h0 s3 h → fr s s3 [15, 16, 17, 18, 19, 20] [21, 22] → (s3.1 15 = 1 ∨ s3.1 15 = 2) → meAt s3 (leafE nd) → Ev g mX3_leaf d 0 0 (mP g ad o h0 (fun v s' => v = none ∧ fr s s' [15, 16, 17, 18, 19, 20] [21, 22] ∧ meAt s' (leafE nd))) 150 [some (.ref o), some (vz (n : Int)), none, none, none, none, none] [] h := by
      intro s3 h hM hfr3 hy hme
      have hA1 : s3.2 1 = s.2 1 := hfr3.2 1 (by decide)
      rw [← hA1] at hA hp1 hp2 hp3 hp5 hp6
      refine ev_iconstZ dX3_leaf_150 ?_
      refine ev_istore_n dX3_leaf_151 (by decide) rfl ?_
      dsimp only [List.set]
      refine ev_iload_n dX3_leaf_152 rfl ?_
      refine ev_aload_n dX3_leaf_153 rfl ?_
      refine ev_iload_n dX3_leaf_154 rfl ?_
      refine ev_iconstZ dX3_leaf_155 ?_
      refine mx_call dX3_leaf_156 cv_X3_133_X3 ce_X3_of hM rfl rfl (k_ofN (n := n) (w := 4) (x := (nd.2.2.2.1.length : Int)) (d := d - 1) (by omega) hM (by omega) (by exact hp2)) (by omega) (Nat.le_of_ble_eq_true rfl) (fun h hM => ?_)
      refine ev_icmp_geZ (tgt := 268) dX3_leaf_159 (by decide) (by omega) (by omega) (fun c159 => absurd c159 (by omega)) (fun c159 => ?_)
      refine ev_aload_n dX3_leaf_162 rfl ?_
      refine mx_getI hM dX3_leaf_163 gf_X3_153_X3 rfl ?_
      try simp only [uS_1, uA_1, uF_1, uS_2, uA_2a, uF_2a, Nat.reduceEqDiff, reduceIte, Int.reduceToNat, Int.toNat_natCast]
      refine ev_if_neZ (tgt := 268) dX3_leaf_166 (by decide) (by omega) (fun c166 => ?_) (fun c166 => absurd c166 (by omega))
      refine ev_return dX3_leaf_268 rfl ?_
      exact ⟨none, _, rfl, ⟨rfl, hfr3, hme⟩, hM⟩
    have T132 : ∀ (s2 : MSt) (h : HM), MX g ad o h0 s2 h → fr s s2 [15, 16, 17, 18, 19, 20] [21, 22] → ((twl nd.2.2.2.1).1 = 0 → s2.1 15 = 0) → ((twl nd.2.2.2.1).1 ≠ 0 → s2.1 15 = 1 ∧ s2.1 16 = (low (twl nd.2.2.2.1).1 : Nat)) → s2.1 18 = ((twl nd.2.2.2.1).2 : Nat) → s2.1 19 = 1 → s2.1 20 = 0 → (∀ e q : Nat, e < 8 → q < 100 → s2.2 21 (100 * e + q) = 0) → (∀ q : Nat, q < 100 → s2.2 22 q = 0) → Ev g mX3_leaf d 0 0 (mP g ad o h0 (fun v s' => v = none ∧ fr s s' [15, 16, 17, 18, 19, 20] [21, 22] ∧ meAt s' (leafE nd))) 132 [some (.ref o), some (vz (n : Int)), none, none, none, none, none] [vz ((lsz nd : Nat) : Int), .ref o] h := by
      intro s2 h hM hfr2 hy0 hy1 hz18 hz19 hz20 hz21 hz22
      refine mx_putI hM dX3_leaf_132 gf_X3_141_X3 rfl (fun h hM => ?_)
      refine ev_aload_n dX3_leaf_135 rfl ?_
      refine mx_getI hM dX3_leaf_136 gf_X3_141_X3 rfl ?_
      try simp only [uS_1, uA_1, uF_1, uS_2, uA_2a, uF_2a, Nat.reduceEqDiff, reduceIte, Int.reduceToNat, Int.toNat_natCast]
      refine ev_bipushZ dX3_leaf_139 rfl ?_
      refine ev_icmp_leZ (tgt := 150) dX3_leaf_141 (by decide) (by omega) (by omega) (fun c141 => ?_) (fun c141 => ?_)
      · by_cases htw : (twl nd.2.2.2.1).1 = 0
        · refine T150 _ h hM (fr.S hfr2 rfl) ?_ htw (by omega) ?_ ?_ ?_ ?_ hz21 hz22
          all_goals (simp only [uS_1, Nat.reduceEqDiff, reduceIte])
          · exact hy0 htw
          · exact hz18
          · exact hz19
          · exact hz20
        · refine TE _ h hM (fr.S hfr2 rfl) (Or.inl (by simp only [uS_1, Nat.reduceEqDiff, reduceIte]; exact (hy1 htw).1)) ?_
          unfold leafE
          rw [if_neg (by omega), if_pos htw]
          exact hy1 htw
      · refine ev_aload_n dX3_leaf_144 rfl ?_
        refine ev_iconstZ dX3_leaf_145 ?_
        refine ev_iconstZ dX3_leaf_146 ?_
        refine mx_callv dX3_leaf_147 cv_X3_171_X3 ce_X3_refuses hM rfl rfl (k_refuses (d := d - 1) (by omega) hM (by simp only [uS_1, Nat.reduceEqDiff, reduceIte]; by_cases q : (twl nd.2.2.2.1).1 = 0 <;> grind)) (by omega) (Nat.le_of_ble_eq_true rfl) (fun h hM => ?_)
        by_cases htw : (twl nd.2.2.2.1).1 = 0
        · rw [refS, if_neg (by simp only [uS_1, Nat.reduceEqDiff, reduceIte]; have := hy0 htw; omega)] at hM
          refine TE _ h hM (fr.S (fr.S (fr.S hfr2 rfl) rfl) rfl) (Or.inr rfl) ?_
          unfold leafE
          rw [if_neg (by omega), if_neg (by omega), if_pos (by omega)]
          exact ⟨rfl, rfl⟩
        · rw [refS, if_pos (by simp only [uS_1, Nat.reduceEqDiff, reduceIte]; have := (hy1 htw).1; omega)] at hM
          refine TE _ h hM (fr.S hfr2 rfl) (Or.inl (by simp only [uS_1, Nat.reduceEqDiff, reduceIte]; exact (hy1 htw).1)) ?_
          unfold leafE
          rw [if_neg (by omega), if_pos htw]
          exact hy1 htw
    have T96 : ∀ (s2 : MSt) (h : HM), MX g ad o h0 s2 h → fr s s2 [15, 16, 17, 18, 19, 20] [21, 22] → ((twl nd.2.2.2.1).1 = 0 → s2.1 15 = 0) → ((twl nd.2.2.2.1).1 ≠ 0 → s2.1 15 = 1 ∧ s2.1 16 = (low (twl nd.2.2.2.1).1 : Nat)) → s2.1 18 = ((twl nd.2.2.2.1).2 : Nat) → s2.1 19 = 1 → s2.1 20 = 0 → (∀ e q : Nat, e < 8 → q < 100 → s2.2 21 (100 * e + q) = 0) → (∀ q : Nat, q < 100 → s2.2 22 q = 0) → Ev g mX3_leaf d 0 0 (mP g ad o h0 (fun v s' => v = none ∧ fr s s' [15, 16, 17, 18, 19, 20] [21, 22] ∧ meAt s' (leafE nd))) 96 [some (.ref o), some (vz (n : Int)), none, none, none, none, none] [] h := by
      intro s2 h hM hfr2 hy0 hy1 hz18 hz19 hz20 hz21 hz22
      have hA1 : s2.2 1 = s.2 1 := hfr2.2 1 (by decide)
      rw [← hA1] at hA hp1 hp2 hp3 hp5 hp6
      refine ev_aload_n dX3_leaf_96 rfl ?_
      refine ev_aload_n dX3_leaf_97 rfl ?_
      refine ev_iload_n dX3_leaf_98 rfl ?_
      refine ev_iconstZ dX3_leaf_99 ?_
      refine mx_call dX3_leaf_100 cv_X3_133_X3 ce_X3_of hM rfl rfl (k_ofN (n := n) (w := 5) (x := (nd.2.2.2.2.length : Int)) (d := d - 1) (by omega) hM (by omega) (by exact hp3)) (by omega) (Nat.le_of_ble_eq_true rfl) (fun h hM => ?_)
      refine ev_aload_n dX3_leaf_103 rfl ?_
      refine ev_iload_n dX3_leaf_104 rfl ?_
      refine mx_call dX3_leaf_105 cv_X3_162_X3 ce_X3_kind hM rfl rfl (k_kindN (n := n) (x := (nd.1 : Int)) (d := d - 1) (by omega) hM (by omega) (by exact hA.1)) (by omega) (Nat.le_of_ble_eq_true rfl) (fun h hM => ?_)
      refine ev_iconstZ dX3_leaf_108 ?_
      refine ev_icmp_neZ (tgt := 130) dX3_leaf_109 (by decide) (by omega) (by omega) (fun c109 => ?_) (fun c109 => ?_)
      · have hoff : offN nd = 0 := by unfold offN; exact if_neg (fun q => c109 (by omega))
        refine ev_iconstZ dX3_leaf_130 ?_
        refine ev_iaddZ dX3_leaf_131 ?_
        refine ev_to (b := ((lsz nd : Nat) : Int)) (by unfold lsz; rw [hoff]; simp) ?_
        exact Ev.forget (T132 s2 h hM hfr2 hy0 hy1 hz18 hz19 hz20 hz21 hz22) (by repeat' first | exact rfl | exact trivial | exact vz_eq (by omega) | refine And.intro ?_ ?_)
      · have hoff : offN nd = nd.2.1 := by unfold offN; exact if_pos (by omega)
        refine ev_aload_n dX3_leaf_112 rfl ?_
        refine ev_iload_n dX3_leaf_113 rfl ?_
        refine ev_iconstZ dX3_leaf_114 ?_
        refine mx_call dX3_leaf_115 cv_X3_133_X3 ce_X3_of hM rfl rfl (k_ofN (n := n) (w := 1) (x := (nd.2.1 : Int)) (d := d - 1) (by omega) hM (by omega) (by exact hA.2.1)) (by omega) (Nat.le_of_ble_eq_true rfl) (fun h hM => ?_)
        refine ev_aload_n dX3_leaf_118 rfl ?_
        refine ev_iload_n dX3_leaf_119 rfl ?_
        refine ev_iconstZ dX3_leaf_120 ?_
        refine mx_call dX3_leaf_121 cv_X3_133_X3 ce_X3_of hM rfl rfl (k_ofN (n := n) (w := 4) (x := (nd.2.2.2.1.length : Int)) (d := d - 1) (by omega) hM (by omega) (by exact hp2)) (by omega) (Nat.le_of_ble_eq_true rfl) (fun h hM => ?_)
        refine ev_iconstZ dX3_leaf_124 ?_
        refine ev_isubZ dX3_leaf_125 ?_
        refine ev_to (b := ((nd.2.2.2.1.length - 1 : Nat) : Int)) (by omega) ?_
        refine ev_imulZ dX3_leaf_126 ?_
        refine ev_goto (tgt := 131) dX3_leaf_127 (by decide) ?_
        refine ev_iaddZ dX3_leaf_131 ?_
        refine ev_to (b := ((lsz nd : Nat) : Int)) (by unfold lsz; rw [hoff]; simp) ?_
        exact Ev.forget (T132 s2 h hM hfr2 hy0 hy1 hz18 hz19 hz20 hz21 hz22) (by repeat' first | exact rfl | exact trivial | exact vz_eq (by omega) | refine And.intro ?_ ?_)
    have T83 : ∀ (h : HM), MX g ad o h0 (uS s1 18 ((twl nd.2.2.2.1).2 : Nat)) h → Ev g mX3_leaf d 0 0 (mP g ad o h0 (fun v s' => v = none ∧ fr s s' [15, 16, 17, 18, 19, 20] [21, 22] ∧ meAt s' (leafE nd))) 83 [some (.ref o), some (vz (n : Int)), some (vz (((twl nd.2.2.2.1).1 : Nat) : Int)), some (vz ((nd.2.2.2.1.length : Nat) : Int)), none, none, none] [] h := by
      intro h hM
      refine ev_iload_n dX3_leaf_83 rfl ?_
      refine ev_if_eqZ (tgt := 96) dX3_leaf_84 (by decide) (by omega) (fun c84 => ?_) (fun c84 => ?_)
      · refine Ev.forget (T96 _ h hM (fr.S hfr1 rfl) ?_ ?_ rfl ?_ ?_ hz21 hz22) (by repeat' first | exact rfl | exact trivial | exact vz_eq (by omega) | refine And.intro ?_ ?_)
        · intro _; simp only [uS_1, Nat.reduceEqDiff, reduceIte]; exact hw1
        · intro q; omega
        · exact hz19
        · exact hz20
      · refine ev_aload_n dX3_leaf_87 rfl ?_
        refine ev_iconstZ dX3_leaf_88 ?_
        refine ev_iload_n dX3_leaf_89 rfl ?_
        refine ev_callSE dX3_leaf_90 cs_X3_168 ce_X3_lowest rfl rfl (k_lowest (n := (twl nd.2.2.2.1).1) (by omega) (fun q => c84 (by omega)) (d := d - 1) (by omega)) (by omega) (Nat.le_of_ble_eq_true rfl) ?_
        refine mx_callv dX3_leaf_93 cv_X3_171_X3 ce_X3_refuses hM rfl rfl (k_refuses (d := d - 1) (by omega) hM (by simp only [uS_1, Nat.reduceEqDiff, reduceIte]; omega)) (by omega) (Nat.le_of_ble_eq_true rfl) (fun h hM => ?_)
        rw [refS, if_neg (by simp only [uS_1, Nat.reduceEqDiff, reduceIte]; omega)] at hM
        refine Ev.forget (T96 _ h hM (fr.S (fr.S (fr.S hfr1 rfl) rfl) rfl) ?_ ?_ rfl ?_ ?_ hz21 hz22) (by repeat' first | exact rfl | exact trivial | exact vz_eq (by omega) | refine And.intro ?_ ?_)
        · intro q; omega
        · intro _; exact ⟨rfl, rfl⟩
        · exact hz19
        · exact hz20
    have hA1 : s1.2 1 = s.2 1 := hfr1.2 1 (by decide)
    rw [← hA1] at hA hp1 hp2 hp3 hp5 hp6
    refine ev_iconstZ dX3_leaf_26 ?_
    refine ev_istore_n dX3_leaf_27 (by decide) rfl ?_
    dsimp only [List.set]
    refine ev_iconstZ dX3_leaf_28 ?_
    refine ev_istore_n dX3_leaf_29 (by decide) rfl ?_
    dsimp only [List.set]
    refine ev_for (nd.2.2.2.1.length) (fun i h => MX g ad o h0 (uS s1 18 ((twl (nd.2.2.2.1.take i)).2 : Nat)) h) (fun i => [some (.ref o), some (vz (n : Int)), some (vz (((twl (nd.2.2.2.1.take i)).1 : Nat) : Int)), some (vz (i : Int)), none, none, none]) (0) (by omega) (by simp only [List.take_zero]; exact MX.congr2 hM (by intro j _ _; rw [uS_1]; split <;> simp_all [twl]) (by intro j i hj; rfl)) (by repeat' first | exact rfl | exact trivial | exact vz_eq (by omega) | refine And.intro ?_ ?_) (fun i h hi1 hi2 hX hN => ?_) (fun h hX => ?_)
    · clear hM
      have hM : MX g ad o h0 (uS s1 18 ((twl (nd.2.2.2.1.take i)).2 : Nat)) h := hX
      clear hX
      refine ev_iload_n dX3_leaf_30 rfl ?_
      refine ev_aload_n dX3_leaf_31 rfl ?_
      refine ev_iload_n dX3_leaf_32 rfl ?_
      refine ev_iconstZ dX3_leaf_33 ?_
      refine mx_call dX3_leaf_34 cv_X3_133_X3 ce_X3_of hM rfl rfl (k_ofN (n := n) (w := 4) (x := (nd.2.2.2.1.length : Int)) (d := d - 1) (by omega) hM (by omega) (by exact hp2)) (by omega) (Nat.le_of_ble_eq_true rfl) (fun h hM => ?_)
      refine ev_icmp_geZ (tgt := 83) dX3_leaf_37 (by decide) (by omega) (by omega) (fun c37 => absurd c37 (by omega)) (fun c37 => ?_)
      refine ev_iconstZ dX3_leaf_40 ?_
      refine ev_aload_n dX3_leaf_41 rfl ?_
      refine ev_aload_n dX3_leaf_42 rfl ?_
      refine ev_iload_n dX3_leaf_43 rfl ?_
      refine ev_iconstZ dX3_leaf_44 ?_
      refine mx_call dX3_leaf_45 cv_X3_133_X3 ce_X3_of hM rfl rfl (k_ofN (n := n) (w := 3) (x := (p : Int)) (d := d - 1) (by omega) hM (by omega) (by exact hp1)) (by omega) (Nat.le_of_ble_eq_true rfl) (fun h hM => ?_)
      refine ev_iload_n dX3_leaf_48 rfl ?_
      refine ev_iaddZ dX3_leaf_49 ?_
      refine ev_to (b := ((p + i : Nat) : Int)) (by omega) ?_
      refine mx_call dX3_leaf_50 cv_X3_165_X3 ce_X3_data hM rfl rfl (k_dataN (n := p + i) (x := (nd.2.2.2.1.getD i 0 : Int)) (d := d - 1) (by omega) hM (by omega) (by exact hp5 i hi2)) (by omega) (Nat.le_of_ble_eq_true rfl) (fun h hM => ?_)
      refine ev_ishlZ dX3_leaf_53 (hd8 i hi2) ?_
      refine ev_istore dX3_leaf_54 (by decide) rfl ?_
      dsimp only [List.set]
      refine ev_iload_n dX3_leaf_56 rfl ?_
      refine ev_aload_n dX3_leaf_57 rfl ?_
      refine mx_getI hM dX3_leaf_58 gf_X3_144_X3 rfl ?_
      try simp only [uS_1, uA_1, uF_1, uS_2, uA_2a, uF_2a, Nat.reduceEqDiff, reduceIte, Int.reduceToNat, Int.toNat_natCast]
      refine ev_iload dX3_leaf_61 rfl ?_
      refine ev_iandZ (a := (twl (nd.2.2.2.1.take i)).2) (b := 1 <<< nd.2.2.2.1.getD i 0) dX3_leaf_63 (by have := (twl_lt _ hd8 i (by omega)).2; omega) (by have := shl_lt (hd8 i hi2); omega) ?_
      refine ev_iorZ (a := (twl (nd.2.2.2.1.take i)).1) (b := (twl (nd.2.2.2.1.take i)).2 &&& 1 <<< nd.2.2.2.1.getD i 0) dX3_leaf_64 (by have := (twl_lt _ hd8 i (by omega)).1; omega) (by have := and_lt (b := 1 <<< nd.2.2.2.1.getD i 0) (twl_lt _ hd8 i (by omega)).2; omega) ?_
      refine ev_istore_n dX3_leaf_65 (by decide) rfl ?_
      dsimp only [List.set]
      refine ev_aload_n dX3_leaf_66 rfl ?_
      refine ev_dup dX3_leaf_67 rfl ?_
      refine mx_getI hM dX3_leaf_68 gf_X3_144_X3 rfl ?_
      try simp only [uS_1, uA_1, uF_1, uS_2, uA_2a, uF_2a, Nat.reduceEqDiff, reduceIte, Int.reduceToNat, Int.toNat_natCast]
      refine ev_iload dX3_leaf_71 rfl ?_
      refine ev_iorZ (a := (twl (nd.2.2.2.1.take i)).2) (b := 1 <<< nd.2.2.2.1.getD i 0) dX3_leaf_73 (by have := (twl_lt _ hd8 i (by omega)).2; omega) (by have := shl_lt (hd8 i hi2); omega) ?_
      refine mx_putI hM dX3_leaf_74 gf_X3_144_X3 rfl (fun h hM => ?_)
      refine ev_iincZ dX3_leaf_77 rfl (by decide) rfl ?_
      dsimp only [List.set]
      refine ev_goto (tgt := 30) dX3_leaf_80 (by decide) ?_
      exact hN _ _ (by rw [twl_succ _ hi2]; exact ⟨rfl, rfl, rfl, rfl, trivial⟩) (by rw [twl_succ _ hi2]; exact MX.congr2 hM (by intro j _ _; simp only [uS_1]; grind) (by intro j i hj; rfl))
    · clear hM
      have hM : MX g ad o h0 (uS s1 18 ((twl (nd.2.2.2.1.take (nd.2.2.2.1.length))).2 : Nat)) h := hX
      clear hX
      refine ev_iload_n dX3_leaf_30 rfl ?_
      refine ev_aload_n dX3_leaf_31 rfl ?_
      refine ev_iload_n dX3_leaf_32 rfl ?_
      refine ev_iconstZ dX3_leaf_33 ?_
      refine mx_call dX3_leaf_34 cv_X3_133_X3 ce_X3_of hM rfl rfl (k_ofN (n := n) (w := 4) (x := (nd.2.2.2.1.length : Int)) (d := d - 1) (by omega) hM (by omega) (by exact hp2)) (by omega) (Nat.le_of_ble_eq_true rfl) (fun h hM => ?_)
      refine ev_icmp_geZ (tgt := 83) dX3_leaf_37 (by decide) (by omega) (by omega) (fun c37 => ?_) (fun c37 => absurd (by omega) c37)
      rw [List.take_length] at hM ⊢
      exact T83 _ hM
  · have hc10 : nd.1 = 2 := by omega
    refine ev_aload_n dX3_leaf_13 rfl ?_
    refine ev_iconstZ dX3_leaf_14 ?_
    refine mx_putI hM dX3_leaf_15 gf_X3_150_X3 rfl (fun h hM => ?_)
    refine ev_aload_n dX3_leaf_18 rfl ?_
    refine mx_getA hM dX3_leaf_19 gf_X3_39_X3 rfl ?_
    refine ev_iconstZ dX3_leaf_22 ?_
    refine ev_iconstZ dX3_leaf_23 ?_
    refine mx_iast hM rfl dX3_leaf_24 (by omega) (fun h hM => ?_)
    refine ev_return dX3_leaf_25 rfl ?_
    exact ⟨none, _, rfl, ⟨rfl, fr.A (fr.S hfr1 rfl) rfl, by unfold leafE; rw [if_pos hc10]; exact ⟨hw1, hz17, hz18, hz19, rfl, fun e q he hq => hz21 e q he hq, fun q hq => by have := hz22 q hq; simp only [uA_2a, uS_2, Nat.reduceEqDiff, reduceIte, Int.reduceToNat]; grind⟩⟩, hM⟩
end M3

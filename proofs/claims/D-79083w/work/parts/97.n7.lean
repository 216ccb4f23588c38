/-! THE COMPONENT: appends in the words of chunks (printed by gen/mkn7.py) -/
section N7S
variable {g : GB} {M : MI} {d c k : Nat} {h : HM}
theorem Wr.one {h' : HM} {a v cap v2 : Nat} {t x : List Nat} {m : Nat} (hm : m = t.length + x.length) (H : SBh g h' a v2 (ncap cap m) (t ++ x)) (o : v2 = v ∨ h v2 = none) (F : Fr g h h' [a, v]) : Wr g h a v cap t [x] h' := by
  subst hm
  exact ⟨v2, by rw [List.flatten_singleton]; exact H, o, F⟩
theorem w_str {a v cap s w : Nat} {t x : List Nat} (hG : GKx g) (H : SBh g h a v cap t) (K : STh h s w x) (hwv : w ≠ v) (hb : t.length + x.length < 400000 ∧ cap < 400000) : Kc g mJ6_append 5 (capF [x] cap t.length - cap) (2 * (capF [x] cap t.length - cap)) [.ref a, .ref s] h (rR (fun r h' => r = some (.ref a) ∧ Wr g h a v cap t [x] h')) :=
  (sb_apps hG H K hwv hb (bud (Nat.le_refl _) (Nat.le_refl _))).mono (fun r h' ⟨y, e, e1, v2, e2, e3, e4⟩ => ⟨y, e, e1, Wr.one rfl e2 e3 e4⟩)
theorem w_chr {a v cap x : Nat} {t : List Nat} (hG : GKx g) (H : SBh g h a v cap t) (hx : x < 128) (hb : t.length + 1 < 400000 ∧ cap < 400000) : Kc g mJ6_append_3 5 (capF [[x]] cap t.length - cap) (2 * (capF [[x]] cap t.length - cap)) [.ref a, vz (x : Nat)] h (rR (fun r h' => r = some (.ref a) ∧ Wr g h a v cap t [[x]] h')) :=
  (sb_appc hG H hx hb (bud (Nat.le_refl _) (Nat.le_refl _))).mono (fun r h' ⟨y, e, e1, v2, e2, e3, e4⟩ => ⟨y, e, e1, Wr.one rfl e2 e3 e4⟩)
theorem w_int {a v cap x : Nat} {t : List Nat} (hG : GKx g) (K : KC g h) (H : SBh g h a v cap t) (hx : x < 10) (hb : t.length + 1 < 400000 ∧ cap < 400000) : Kc g mJ6_append_2 5 (capF [[48 + x]] cap t.length - cap) (2 * (capF [[48 + x]] cap t.length - cap)) [.ref a, vz (x : Nat)] h (rR (fun r h' => r = some (.ref a) ∧ Wr g h a v cap t [[48 + x]] h')) := by
  obtain ⟨A, e1, e2, e3, e4, e5⟩ := id H
  exact (sb_appi hG H K.2.1.1 hx (by have := K.2.1.2; omega) hb (bud (Nat.le_refl _) (Nat.le_refl _))).mono (fun r h' ⟨y, e, e1, v2, e2, e3, e4⟩ => ⟨y, e, e1, Wr.one rfl e2 e3 e4⟩)
theorem w_con {a v cap i n ix : Nat} {C tx : String} {t : List Nat} (hG : GKx g) (K : KC g h) (H : SBh g h a v cap t) (hq : srL[i]? = some (C, n, tx, ix)) (hb : t.length + (strB tx).length < 400000 ∧ cap < 400000) : Kc g mJ6_append 5 (capF [strB tx] cap t.length - cap) (2 * (capF [strB tx] cap t.length - cap)) [.ref a, .ref (g.2.2.2.2 ix)] h (rR (fun r h' => r = some (.ref a) ∧ Wr g h a v cap t [strB tx] h')) := by
  obtain ⟨A, e1, e2, e3, e4, e5⟩ := id H
  obtain ⟨f1, f2, f3⟩ := K.2.2.1 i _ hq
  exact w_str hG H f1 (by have f3 : g.2.2.2.2 (24 + ix) < gB g := f3; show g.2.2.2.2 (24 + ix) ≠ v; omega) hb
theorem capF_pre (r1 r2 : List (List Nat)) (cap n : Nat) : capF r1 cap n ≤ capF (r1 ++ r2) cap n := by
  rw [capF_app]; exact capF_le _ _ _
theorem capF_m (x : List Nat) (cap n : Nat) : n + x.length ≤ capF [x] cap n := by
  show _ ≤ ncap cap (n + x.length)
  unfold ncap; split <;> omega
/-- one chunk more behind others -/
theorem Wr.cat {h1 h2 : HM} {a v v2 cap : Nat} {t : List Nat} {r1 r2 : List (List Nat)} (o1 : v2 = v ∨ h v2 = none) (F1 : Fr g h h1 [a, v]) (W2 : Wr g h1 a v2 (capF r1 cap t.length) (t ++ r1.flatten) r2 h2) : Wr g h a v cap t (r1 ++ r2) h2 := by
  obtain ⟨v3, H3, o3, F3⟩ := W2
  refine ⟨v3, ?_, ?_, F1.call F3 (sbm o1)⟩
  · rw [capF_app, List.flatten_append, ← List.append_assoc, ← List.length_append]
    exact H3
  · rcases o3 with q | q
    · rw [q]; exact o1
    · exact Or.inr (F1.fresh q)
end N7S

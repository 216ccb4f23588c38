/-! THE COMPONENT: the parser, layer, series (printed by gen) -/
section V7S
variable {g : GB} {M : MI} {d c k : Nat} {h : HM}
variable {I h0 J : HM} {ps tb tv cap ne m : Nat} {t : List Nat}
/-- rs are the trees of the rows acc -/
def RowsAt (J : HM) (n : Nat) (rs : List Nat) (acc : List (List Nd)) : Prop := rs.length = acc.length ∧ ∀ (i a : Nat) (row : List Nd), rs[i]? = some a → acc[i]? = some row → NodeAt J n a (tidy row)
theorem RowsAt.app {J' : HM} {n n2 a : Nat} {rs : List Nat} {acc : List (List Nd)} {row : List Nd} (R : RowsAt J n rs acc) (hS : Sub J J') (N : NodeAt J' n2 a (tidy row)) : RowsAt J' (max n n2) (rs ++ [a]) (acc ++ [row]) := by
  refine ⟨by rw [List.length_append, List.length_append, R.1]; rfl, fun i q c h1 h2 => ?_⟩
  by_cases e : i < rs.length
  · rw [List.getElem?_append_left e] at h1
    rw [List.getElem?_append_left (by rw [← R.1]; exact e)] at h2
    exact ((R.2 i q c h1 h2).sub hS).mono (Nat.le_max_left _ _)
  · have e2 : i = rs.length := by have := (List.getElem?_eq_some_iff.mp h1).1; rw [List.length_append, List.length_singleton] at this; omega
    subst e2
    rw [List.getElem?_append_right (Nat.le_refl _), Nat.sub_self] at h1
    rw [List.getElem?_append_right (by rw [R.1]; exact Nat.le_refl _), R.1, Nat.sub_self] at h2
    cases h1; cases h2
    exact N.mono (Nat.le_max_right _ _)
theorem NodeAt.clsE {n a : Nat} {l : List Nd} (N : NodeAt J n a l) : ∃ κ fs, J a = some (.inr (nCi κ, fs)) := by
  cases n with
  | zero => exact N.elim
  | succ n =>
    obtain ⟨nd, cs, as, -, -, -, -, hc, -⟩ := N
    obtain ⟨fs, e⟩ := hc.cls
    exact ⟨_, fs, e⟩
theorem RowsAt.cls {n : Nat} {rs : List Nat} {acc : List (List Nd)} (R : RowsAt J n rs acc) {q : Nat} (hq : q ∈ rs) : ∃ κ fs, J q = some (.inr (nCi κ, fs)) := by
  obtain ⟨i, hi⟩ := List.getElem?_of_mem hq
  have hl := (List.getElem?_eq_some_iff.mp hi).1
  exact (R.2 i q _ hi (List.getElem?_eq_getElem (by rw [← R.1]; exact hl))).clsE
/-- several parts in a list: the node of the kind 6 or 7 -/
theorem NodeAt.sev {J J' : HM} {n r k : Nat} {rs : List Nat} {acc : List (List Nd)} (R : RowsAt J n rs acc) (hS : Sub J J') (hk : k = 6 ∨ k = 7) (h1 : rs ≠ []) (hs : SevAt J' r (decide (k = 6)) rs) : NodeAt J' (n + 1) r ((k, 0, acc.length, [], []) :: (acc.map tidy).flatten) := by
  refine ⟨_, acc.map tidy, rs, rfl, by rw [List.length_map], ⟨fun q => absurd q (show ¬ k ≤ 2 by omega), fun q => ?_⟩, by rw [List.length_map, R.1], ?_, fun i q c e1 e2 => ?_⟩
  · have := R.1; rw [List.map_eq_nil_iff.mp q] at this; exact absurd (List.length_eq_zero_iff.mp this) h1
  · obtain ⟨pl, v, c2, mc, f, a1, a2, a3, a4, a5⟩ := hs
    refine ⟨fun q => absurd q (show ¬ k ≤ 1 by omega), fun q => absurd q (show ¬ k = 2 by omega), fun q => absurd q (show ¬ k = 3 by omega), fun q => absurd q (show ¬ k = 4 by omega), fun q => absurd q (show ¬ k = 5 by omega), fun _ => ⟨pl, v, c2, mc, f, ?_, a2, a3, a4, a5⟩⟩
    rw [a1]
    rcases hk with rfl | rfl <;> rfl
  · rw [List.getElem?_map] at e1
    cases hc : acc[i]? with
    | none => rw [hc] at e1; cases e1
    | some row => rw [hc] at e1; cases e1; exact (R.2 i q row e2 hc).sub hS
/-- a part of a layer (2), of a series (3) -/
def yP (c : List Nat) (m f nst p : Nat) : PR := if m = 2 then prs c f 1 nst p else layP (prs c f 2 nst p)
def sepN (m : Nat) : Nat := if m = 2 then 124 else 59
theorem prs_m {c : List Nat} {m f nst p : Nat} (hm : m = 2 ∨ m = 3) : prs c (f + 1) m nst p = if hrV c (endP (yP c m f nst p)) = (sepN m : Int) then appP (yP c m f nst p) (prs c f m nst (endP (yP c m f nst p) + 1)) else yP c m f nst p := by
  rcases hm with rfl | rfl
  · exact prs_2 c f nst p
  · rw [prs_3]
    have e : endP (layP (prs c f 2 nst p)) = endP (prs c f 2 nst p) := by cases prs c f 2 nst p <;> rfl
    show _ = if hrV c (endP (layP (prs c f 2 nst p))) = 59 then appP (layP (prs c f 2 nst p)) (prs c f 3 nst (endP (layP (prs c f 2 nst p)) + 1)) else layP (prs c f 2 nst p)
    rw [e]
theorem prs_len1 (c : List Nat) : ∀ (f m nst p : Nat) (r : List (List Nd) × Nat), m ≤ 1 → prs c f m nst p = .ok r → r.1.length = 1 := by
  intro f
  induction f with
  | zero => intro m nst p r _ h; cases h
  | succ f ih =>
    intro m nst p r hm h
    have hphr : ∀ {k v p : Nat} {r : List (List Nd) × Nat}, phrP c k v p = .ok r → r.1.length = 1 := fun h => by rw [(phrP_ok h).2]; rfl
    have hopn : ∀ {nst p : Nat} {x : PR} {r : List (List Nd) × Nat}, opnP c nst p x = .ok r → r.1.length = 1 := fun h => by
      obtain ⟨r', -, -, e⟩ := encP_ok (opnP_ok h).2.2; rw [e]; rfl
    have hmap : ∀ {nd : Nd} {x : PR} {r : List (List Nd) × Nat}, mapP nd x = .ok r → r.1.length = 1 := fun h => by
      obtain ⟨r', -, e⟩ := mapP_ok h; rw [e]; rfl
    rcases (show m = 0 ∨ m = 1 by omega) with rfl | rfl
    · rw [prs_0] at h
      repeat' split at h
      all_goals first | exact hphr h | exact hopn h | exact hmap h | (cases h; rfl) | cases h
    · rw [prs_1] at h
      split at h
      · exact hmap h
      · exact ih 0 nst p r (by omega) h
theorem yP_len1 {c : List Nat} {m f nst p : Nat} {r : List (List Nd) × Nat} (hm : m = 2 ∨ m = 3) (h : yP c m f nst p = .ok r) : ∃ row : List Nd, r.1 = [row] := by
  rcases hm with rfl | rfl
  · exact List.length_eq_one_iff.mp (prs_len1 c f 1 nst p r (by omega) h)
  · obtain ⟨r', -, e⟩ := layP_ok (show layP (prs c f 2 nst p) = .ok r from h)
    rw [e]; exact ⟨_, rfl⟩
/-- what the part's method answers -/
theorem yP_PrQ {m f nst p : Nat} {r : RS} {h' : HM} (hm : m = 2 ∨ m = 3) (q : PrQ g I h ps tb nst (m - 1) (prs t f (m - 1) nst p) r h') : PrQ g I h ps tb nst 0 (yP t m f nst p) r h' := by
  rcases hm with rfl | rfl
  · show PrQ g I h ps tb nst 0 (prs t f 1 nst p) r h'
    cases hx : prs t f 1 nst p with
    | error e => rw [show (2 - 1) = 1 from rfl, hx] at q; exact q
    | ok r => rw [show (2 - 1) = 1 from rfl, hx] at q; exact q
  · show PrQ g I h ps tb nst 0 (layP (prs t f 2 nst p)) r h'
    cases hx : prs t f 2 nst p with
    | error e => rw [show (3 - 1) = 2 from rfl, hx] at q; exact q
    | ok r =>
      rw [show (3 - 1) = 2 from rfl, hx] at q
      obtain ⟨a, n, J, e1, G, N, p1, f⟩ := q
      exact ⟨a, n, J, e1, G, by show NodeAt J n a (tidy ([layR r.1].flatten)); rw [List.flatten_cons, List.flatten_nil, List.append_nil]; exact N, p1, f⟩
theorem yP_end {m f nst p : Nat} (hm : m = 2 ∨ m = 3) : endP (yP t m f nst p) = endP (prs t f (m - 1) nst p) := by
  rcases hm with rfl | rfl
  · rfl
  · show endP (layP (prs t f 2 nst p)) = endP (prs t f 2 nst p)
    cases prs t f 2 nst p <;> rfl
/-- what is still to come, once acc is there -/
def zP (c : List Nat) (m f nst q : Nat) (acc : List (List Nd)) : PR := if hrV c q = (sepN m : Int) then appP (.ok (acc, q)) (prs c f m nst (q + 1)) else .ok (acc, q)
theorem zP_err {m f nst q e : Nat} {acc : List (List Nd)} (hm : m = 2 ∨ m = 3) (hs : hrV t q = (sepN m : Int)) (hy : yP t m f nst (q + 1) = .error e) : zP t m (f + 1) nst q acc = .error e := by
  unfold zP
  rw [if_pos hs, prs_m hm, hy]
  split <;> rfl
theorem zP_ok {m f nst q q' : Nat} {row : List Nd} {acc : List (List Nd)} (hm : m = 2 ∨ m = 3) (hs : hrV t q = (sepN m : Int)) (hy : yP t m f nst (q + 1) = .ok ([row], q')) : zP t m (f + 1) nst q acc = zP t m f nst q' (acc ++ [row]) := by
  unfold zP
  rw [if_pos hs, prs_m hm, hy]
  show appP (.ok (acc, q)) (if hrV t q' = (sepN m : Int) then appP (.ok ([row], q')) (prs t f m nst (q' + 1)) else .ok ([row], q')) = _
  split
  · cases prs t f m nst (q' + 1) with
    | error e => rfl
    | ok r => show (Except.ok (acc ++ ([row] ++ r.1), r.2) : PR) = .ok (acc ++ [row] ++ r.1, r.2); rw [List.append_assoc]
  · rfl
theorem prs_zP {m f nst p q : Nat} {row : List Nd} (hm : m = 2 ∨ m = 3) (hy : yP t m f nst p = .ok ([row], q)) : prs t (f + 1) m nst p = zP t m f nst q [row] := by
  rw [prs_m hm, hy]; rfl
theorem prs_yerr {m f nst p e : Nat} (hm : m = 2 ∨ m = 3) (hy : yP t m f nst p = .error e) : prs t (f + 1) m nst p = .error e := by
  rw [prs_m hm, hy]
  split <;> rfl
theorem zP_ge {m f nst q : Nat} {acc : List (List Nd)} (hm : m ≤ 3) (hq : q ≤ t.length) (hf : q < t.length → 4 * (t.length - (q + 1)) + m + 1 ≤ f) : q ≤ endP (zP t m f nst q acc) := by
  unfold zP
  split
  · rename_i h
    have hlt := hrV_in h (by unfold sepN; split <;> decide)
    have h1 := prs_ge (t := t) f m nst (q + 1) hm hlt (hf hlt)
    exact app_ge (Nat.le_refl _) (by omega)
  · exact Nat.le_refl _
theorem yP_go {m f nst p : Nat} {r : List (List Nd) × Nat} (hm : m = 2 ∨ m = 3) (hp : p ≤ t.length) (h : yP t m f nst p = .ok r) : p < r.2 ∧ r.2 ≤ t.length := by
  rcases hm with rfl | rfl
  · exact prs_go t f 1 nst p r (by omega) hp h
  · obtain ⟨r', h1, e⟩ := layP_ok (show layP (prs t f 2 nst p) = .ok r from h)
    rw [e]; exact prs_go t f 2 nst p r' (by omega) hp h1
set_option maxRecDepth 100000 in
set_option maxHeartbeats 4000000 in
theorem end_layer (hG : GKx g) (K0 : KC g h0) (hB : gB g ≤ ps) (hu9 : ∀ u ∈ t, u < 128) (hl : t.length ≤ 100) (hSI : Sub I h0) {q q1 n : Nat} {rs : List Nat} {acc : List (List Nd)} {x2 : Int} (L : LsS g I h0 ps tb tv cap ne t J (q) q1 (rs) h) (R : RowsAt J n rs acc) (hr1 : 1 ≤ rs.length) (hrq : rs.length ≤ q) (hq : q ≤ t.length) (hd : 7 ≤ d) (hc : 1 ≤ c) (hk : 2 ≤ k) : Ev g mX6_layer d c k (PrQ g I h0 ps tb ne 2 (.ok (acc, q))) 38 [some (.ref ps), some (.ref q1), some (vz x2)] [] h := by
  obtain ⟨lP, lT, lG, lF, lj, v9, c9, mc9, lA, lv⟩ := id L
  have la := lA.1
  refine ev_iconstZ dX6_layer_38 ?_
  refine ev_aload_n dX6_layer_39 rfl ?_
  obtain ⟨fq, a3, a4⟩ := id lA.2.2.1
  refine ev_callSR dX6_layer_40 cs_X6_63 ce_X16_of rfl rfl (k_of16 (b := true) (rs := rs) hG la a3 a4 ⟨lA.2.2.2.2.1, by have := lA.2.2.2.2.2.1; omega⟩ (by omega) hr1 (fun q hq => by obtain ⟨κ, fs, e⟩ := R.cls hq; exact ⟨κ, fs, lG.2.1 _ _ e⟩)) (by omega) (by omega) (by omega) (Nat.le_of_ble_eq_true rfl) (fun v h2 q => ?_)
  obtain ⟨r, rfl, hr, F2⟩ := q
  refine ev_areturn dX6_layer_43 rfl (Or.inl ⟨_, rfl⟩) (Or.inr ⟨_, rfl⟩) ?_
  rcases hr with ⟨rfl, rfl⟩ | ⟨hn1, zr, Br, hr⟩
  · obtain ⟨row, rfl⟩ : ∃ row, acc = [row] := List.length_eq_one_iff.mp (by rw [← R.1]; rfl)
    refine ⟨r, n, J, rfl, lG, ?_, lP, lF⟩
    show NodeAt J n r (tidy ((6, 0, 1, [], []) :: [row].flatten))
    rw [tidy_f (by decide), List.flatten_cons, List.flatten_nil, List.append_nil]
    exact R.2 0 r row rfl rfl
  · have hlen := lA.2.2.2.2.1
    have hv0 : h0 v9 = none := by
      have hBg := hG
      rcases lv with e | e
      · rcases lA.2.2.2.2.2.2 with ⟨-, q⟩ | ⟨-, q⟩
        · omega
        · omega
      · exact e.1
    have G1 := (lG.fr0 F2).add hSI (F2.keep la (fun q => by cases q)) lj.2.2
    have s1 := (lG.fr0 F2).subadd (F2.keep la (fun q => by cases q))
    have G2 := G1.add hSI (F2.keep a3 (fun q => by cases q)) hv0 (lA.cap (by omega))
    have s2 := G1.subadd (F2.keep a3 (fun q => by cases q))
    have zr0 : h0 r = none := lF.fresh zr
    have G3 := G2.add hSI hr zr0
    have s3 := G2.subadd hr
    refine ⟨r, n + 1, _, rfl, G3, ?_, F2.keep lP (fun q => by cases q), lF.call F2 nil_in⟩
    have hln2 : 1 < acc.length := by rw [← R.1]; omega
    show NodeAt _ (n + 1) r (tidy ((6, 0, acc.length, [], []) :: acc.flatten))
    rw [tidy_t (by unfold kpNd; rw [decide_eq_true (p := 1 < acc.length) hln2]; rfl), tidy_flat]
    exact NodeAt.sev R (fun x y hx => s3 _ _ (s2 _ _ (s1 _ _ hx))) (by omega) (fun q => by rw [q] at hr1; exact absurd hr1 (by decide)) ⟨q1, v9, c9, mc9, fq, hs_same _ _ _, s3 _ _ (s2 _ _ (hs_same _ _ _)), s3 _ _ (hs_same _ _ _), a4, hlen⟩
set_option maxRecDepth 100000 in
set_option maxHeartbeats 4000000 in
theorem loop_layer (hG : GKx g) (K0 : KC g h0) (hB : gB g ≤ ps) (hu9 : ∀ u ∈ t, u < 128) (hl : t.length ≤ 100) (hSI : Sub I h0) (hIp : I ps = none) {q1 F : Nat} (IH : ∀ f, f < F → ∀ ne' p', PCon g t f 1 ne' p') (hne : ne ≤ 10) (hd : 5 * (10 - ne) + 20 + 2 ≤ d) : ∀ (f : Nat), f < F → ∀ (J h : HM) (q n c k : Nat) (rs : List Nat) (acc : List (List Nd)) (x2 : Int), LsS g I h0 ps tb tv cap ne t J (q) q1 (rs) h → RowsAt J n rs acc → 1 ≤ rs.length → rs.length ≤ q → q ≤ t.length → (hrV t q = 124 → 4 * (t.length - (q + 1)) + 2 + 1 ≤ f) → 20 * endP (zP t 2 f ne q acc) + 1 ≤ c + 20 * q → 1000 * endP (zP t 2 f ne q acc) + 2 ≤ k + 1000 * q → Ev g mX6_layer d c k (PrQ g I h0 ps tb ne 2 (zP t 2 f ne q acc)) 17 [some (.ref ps), some (.ref q1), some (vz x2)] [] h := by
  intro f
  induction f with
  | zero =>
    intro hf J h q n c k rs acc x2 L R hr1 hrq hq hfu hc hk
    have hs : hrV t q ≠ 124 := fun e => by have := hfu e; omega
    have hz : zP t 2 0 ne q acc = .ok (acc, q) := if_neg hs
    rw [hz] at hc hk ⊢
    have hc : 20 * q + 1 ≤ c + 20 * q := hc
    have hk : 1000 * q + 2 ≤ k + 1000 * q := hk
    refine ev_aload_n dX6_layer_17 rfl ?_
    refine ev_bipushZ dX6_layer_18 rfl ?_
    have hb : nx t q 124 124 = false := by rw [nx_eq]; exact decide_eq_false hs
    have hk2 := k_takes (lo := 124) hG L.1 L.2.1 hu9 (by omega) (by omega) (by omega) hB
    rw [hb] at hk2
    refine ev_callVR dX6_layer_20 cv_X6_60_X6 ce_X6_takes L.1 rfl rfl rfl hk2 (by omega) (by omega) (by omega) (Nat.le_of_ble_eq_true rfl) (fun v2 h2 P2 => ?_)
    obtain ⟨rfl, hp2, f2⟩ := P2
    have L2 : LsS g I h0 ps tb tv cap ne t J (q) q1 (rs) h2 := L.take hp2 f2
    refine ev_if_eqB (tgt := 38) dX6_layer_23 (by decide) (fun c23 => ?_) (fun c23 => by cases c23)
    exact end_layer hG K0 hB hu9 hl hSI L2 R hr1 hrq hq (by omega) (by omega) (by omega)
  | succ f ih =>
    intro hf J h q n c k rs acc x2 L R hr1 hrq hq hfu hc hk
    by_cases hs : hrV t q = 124
    · have hlt := hrV_in hs (by decide)
      have hfu := hfu hs
      cases hY : yP t 2 f ne (q + 1) with
      | error e =>
        rw [zP_err (by omega) hs hY] at hc hk ⊢
        have hc : 20 * e + 1 ≤ c + 20 * q := hc
        have hk : 1000 * e + 2 ≤ k + 1000 * q := hk
        refine ev_aload_n dX6_layer_17 rfl ?_
        refine ev_bipushZ dX6_layer_18 rfl ?_
        have hb : nx t q 124 124 = true := by rw [nx_eq]; exact decide_eq_true hs
        have hk2 := k_takes (lo := 124) hG L.1 L.2.1 hu9 (by omega) (by omega) (by omega) hB
        rw [hb] at hk2
        refine ev_callVR dX6_layer_20 cv_X6_60_X6 ce_X6_takes L.1 rfl rfl rfl hk2 (by omega) (by omega) (by omega) (Nat.le_of_ble_eq_true rfl) (fun v2 h2 P2 => ?_)
        obtain ⟨rfl, hp2, f2⟩ := P2
        have L2 : LsS g I h0 ps tb tv cap ne t J (q + 1) q1 (rs) h2 := L.take hp2 f2
        refine ev_if_eqB (tgt := 38) dX6_layer_23 (by decide) (fun c23 => by cases c23) (fun c23 => ?_)
        refine ev_aload_n dX6_layer_26 rfl ?_
        refine ev_aload_n dX6_layer_27 rfl ?_
        have hEn : endP (prs t f 1 ne (q + 1)) = e := by rw [← yP_end (m := 2) (by omega), hY]; rfl
        have hcal := IH f (by omega) ne (q + 1) J h2 ps tb tv cap (d - 1) (20 * e + 10 - 20 * (q + 1)) (1000 * e + 100 - 1000 * (q + 1)) (K0.fr L2.2.2.2.1) hB L2.2.2.1.2.1 L2.2.2.2.2.1.1 L2.1 L2.2.1 (by omega) hne (by omega) (by omega) (by rw [hEn]; omega) (by rw [hEn]; omega)
        have hcal := hcal.mono (fun r h3 q => yP_PrQ (m := 2) (by omega) q)
        rw [hY] at hcal
        refine ev_callV dX6_layer_28 cv_X6_69_X6 ce_X6_repeated L2.1 rfl rfl rfl hcal (by omega) (by omega) (by omega) (Nat.le_of_ble_eq_true rfl) (fun v h3 q9 => ?_) (fun E q8 h3 r9 => ?_)
        · obtain ⟨q9, p9, e9, -⟩ := q9; cases e9
        · exact evx_out rfl (synE.pre L2.2.2.2.1 r9)
      | ok rr =>
        obtain ⟨row, hrow⟩ := yP_len1 (c := t) (m := 2) (by omega) hY
        obtain ⟨rows, q'⟩ := rr
        have hrow : rows = [row] := hrow
        subst hrow
        have hgo : q + 1 < q' ∧ q' ≤ t.length := yP_go (m := 2) (by omega) (by omega) hY
        rw [zP_ok (by omega) hs hY] at hc hk ⊢
        have hzg := zP_ge (t := t) (m := 2) (f := f) (nst := ne) (q := q') (acc := acc ++ [row]) (by omega) (by omega) (fun _ => by omega)
        refine ev_aload_n dX6_layer_17 rfl ?_
        refine ev_bipushZ dX6_layer_18 rfl ?_
        have hb : nx t q 124 124 = true := by rw [nx_eq]; exact decide_eq_true hs
        have hk2 := k_takes (lo := 124) hG L.1 L.2.1 hu9 (by omega) (by omega) (by omega) hB
        rw [hb] at hk2
        refine ev_callVR dX6_layer_20 cv_X6_60_X6 ce_X6_takes L.1 rfl rfl rfl hk2 (by omega) (by omega) (by omega) (Nat.le_of_ble_eq_true rfl) (fun v2 h2 P2 => ?_)
        obtain ⟨rfl, hp2, f2⟩ := P2
        have L2 : LsS g I h0 ps tb tv cap ne t J (q + 1) q1 (rs) h2 := L.take hp2 f2
        refine ev_if_eqB (tgt := 38) dX6_layer_23 (by decide) (fun c23 => by cases c23) (fun c23 => ?_)
        refine ev_aload_n dX6_layer_26 rfl ?_
        refine ev_aload_n dX6_layer_27 rfl ?_
        have hEn : endP (prs t f 1 ne (q + 1)) = q' := by rw [← yP_end (m := 2) (by omega), hY]; rfl
        have hcal := IH f (by omega) ne (q + 1) J h2 ps tb tv cap (d - 1) (20 * q' + 10 - 20 * (q + 1)) (1000 * q' + 100 - 1000 * (q + 1)) (K0.fr L2.2.2.2.1) hB L2.2.2.1.2.1 L2.2.2.2.2.1.1 L2.1 L2.2.1 (by omega) hne (by omega) (by omega) (by rw [hEn]; omega) (by rw [hEn]; omega)
        have hcal := hcal.mono (fun r h3 q => yP_PrQ (m := 2) (by omega) q)
        rw [hY] at hcal
        refine ev_callV dX6_layer_28 cv_X6_69_X6 ce_X6_repeated L2.1 rfl rfl rfl hcal (by omega) (by omega) (by omega) (Nat.le_of_ble_eq_true rfl) (fun v h3 q9 => ?_) (fun E q8 h3 r9 => by obtain ⟨a9, n9, J9, e9, -⟩ := r9; cases e9)
        obtain ⟨a, n2, J2, e9, GJ, NJ, PJ, FJ⟩ := q9
        cases e9
        have NJ : NodeAt J2 n2 a (tidy row) := by have z : NodeAt J2 n2 a (tidy ([row].flatten)) := NJ; rw [List.flatten_cons, List.flatten_nil, List.append_nil] at z; exact z
        have L3 : LsS g I h0 ps tb tv cap ne t J2 (q') q1 (rs) h3 := L2.part GJ PJ FJ
        have hrl : rs.length = rs.length := rfl
        obtain ⟨lPL4, lTL4, lGL4, lFL4, ljL4, vL49, cL49, mcL49, lAL4, lvL4⟩ := id L3
        have laL4 := lAL4.1
        refine ev_callVR dX6_layer_31 cv_X6_56_J26 ce_J26_add lAL4.1 rfl rfl rfl (al_add hG (K0.fr lFL4).1.1 lAL4 (by rw [hrl]; omega) (Or.inl (by obtain ⟨κ, fs, e⟩ := NJ.clsE; exact ⟨_, lGL4.2.1 _ _ e⟩))) (by omega) (by omega) (by rw [hrl]; omega) (Nat.le_of_ble_eq_true rfl) (fun vL4 hL4 PL4 => ?_)
        obtain ⟨rfl, wL4, cwL4, A2L4, hwL4, f2L4⟩ := PL4
        have L4 := LsS.add lPL4 lTL4 lGL4 lFL4 ljL4 lAL4 lvL4 A2L4 hwL4 f2L4
        refine ev_istore_n dX6_layer_34 (by decide) rfl ?_
        dsimp only [List.set]
        refine ev_goto (tgt := 17) dX6_layer_35 (by decide) ?_
        exact ih (by omega) J2 hL4 q' (max n n2) _ _ (rs ++ [a]) (acc ++ [row]) _ L4 (R.app GJ.1 NJ) (by rw [List.length_append]; omega) (by rw [List.length_append, List.length_singleton]; omega) (by omega) (fun _ => by omega) (by omega) (by omega)
    · have hz : zP t 2 (f + 1) ne q acc = .ok (acc, q) := if_neg hs
      rw [hz] at hc hk ⊢
      have hc : 20 * q + 1 ≤ c + 20 * q := hc
      have hk : 1000 * q + 2 ≤ k + 1000 * q := hk
      refine ev_aload_n dX6_layer_17 rfl ?_
      refine ev_bipushZ dX6_layer_18 rfl ?_
      have hb : nx t q 124 124 = false := by rw [nx_eq]; exact decide_eq_false hs
      have hk2 := k_takes (lo := 124) hG L.1 L.2.1 hu9 (by omega) (by omega) (by omega) hB
      rw [hb] at hk2
      refine ev_callVR dX6_layer_20 cv_X6_60_X6 ce_X6_takes L.1 rfl rfl rfl hk2 (by omega) (by omega) (by omega) (Nat.le_of_ble_eq_true rfl) (fun v2 h2 P2 => ?_)
      obtain ⟨rfl, hp2, f2⟩ := P2
      have L2 : LsS g I h0 ps tb tv cap ne t J (q) q1 (rs) h2 := L.take hp2 f2
      refine ev_if_eqB (tgt := 38) dX6_layer_23 (by decide) (fun c23 => ?_) (fun c23 => by cases c23)
      exact end_layer hG K0 hB hu9 hl hSI L2 R hr1 hrq hq (by omega) (by omega) (by omega)
set_option maxRecDepth 100000 in
set_option maxHeartbeats 4000000 in
theorem k_layer6 (hG : GKx g) (K0 : KC g h) (hB : gB g ≤ ps) (hu9 : ∀ u ∈ t, u < 128) (hl : t.length ≤ 100) (hSI : Sub I h) (hIp : I ps = none) {f p : Nat} (HP : ParC h ps tb p ne) (HT : SBh g h tb tv cap t) (hp : p ≤ t.length) (hne : ne ≤ 10) (hf : 4 * (t.length - p) + 2 ≤ f) (IH : ∀ f', f' < f + 1 → ∀ ne' p', PCon g t f' 1 ne' p') (hd : 5 * (10 - ne) + 20 + 2 ≤ d) (hc : 20 * endP (prs t (f + 1) 2 ne p) + 14 ≤ c + 20 * p) (hk : 1000 * endP (prs t (f + 1) 2 ne p) + 330 ≤ k + 1000 * p) : Kc g mX6_layer d c k [.ref ps] h (PrQ g I h ps tb ne 2 (prs t (f + 1) 2 ne p)) := by
  refine Kc.of (ls := [some (.ref ps), none, none]) (by decide +kernel) (Nat.le_of_ble_eq_true rfl) rfl ?_
  have hge0 := prs_ge (t := t) (f + 1) 2 ne p (by omega) hp (by omega)
  cases hY : yP t 2 f ne p with
  | error e =>
    rw [prs_yerr (by omega) hY] at hc hk hge0 ⊢
    have hge0 : p ≤ e := hge0
    have hc : 20 * e + 14 ≤ c + 20 * p := hc
    have hk : 1000 * e + 330 ≤ k + 1000 * p := hk
    refine ev_newC (c' := c - 1) (k' := k - 3) [vz 0, .null, vz 0] dX6_layer_0 cf_J26 q1615 q376 q152 rfl (by omega) (by omega) (fun qm1 hp_m2 em3 Bm4 Hqm1_m5 fm6 => ?_)
    have HP_m7 := (fm6 _ (ne_no HP em3)).trans HP
    have zm8 := ((Fr.refl (g := g) _ [])).fresh em3
    have Fm9 := ((Fr.refl (g := g) _ [])).alloc (Or.inl ⟨_, Hqm1_m5⟩) fm6 em3
    refine ev_dup dX6_layer_3 rfl ?_
    refine ev_callVR dX6_layer_4 ci_X6_51 ce_J26_init Hqm1_m5 rfl rfl rfl (al_init hG Hqm1_m5 Bm4) (by omega) (by omega) (by omega) (Nat.le_of_ble_eq_true rfl) (fun vm10 hp_m10 Pm10 => ?_)
    obtain ⟨rfl, hnm10, frm10⟩ := Pm10
    have HP_m11 := frm10.keep HP_m7 (by simp only [List.mem_cons, List.not_mem_nil, or_false, not_or]; exact (ne_no HP em3))
    have Fm12 := (Fm9).call frm10 (fun x hx => Or.inr (Or.inl (by rw [List.mem_singleton.mp hx]; exact zm8)))
    refine ev_astore_n dX6_layer_7 (by decide) rfl ?_
    dsimp only [List.set]
    refine ev_aload_n dX6_layer_8 rfl ?_
    refine ev_aload_n dX6_layer_9 rfl ?_
    have HP2 := HP_m11
    have F2 := Fm12
    have L0 : LsS g I h ps tb tv cap ne t I (p) qm1 ([]) hp_m10 := ⟨HP2, HT.fr F2 (fun q => by cases q) (fun q => by cases q), (Gw.refl hSI).fr0 F2, F2.more (fun x hx => by cases hx), ⟨hIp, hSI.none zm8, zm8⟩, _, _, _, al_new (K0.fr F2).1.1 hnm10 Bm4, Or.inl K0.1.2⟩
    have hEn : endP (prs t f 1 ne p) = e := by rw [← yP_end (m := 2) (by omega), hY]; rfl
    have hcal := IH f (by omega) ne p I hp_m10 ps tb tv cap (d - 1) (20 * e + 10 - 20 * p) (1000 * e + 100 - 1000 * p) (K0.fr L0.2.2.2.1) hB L0.2.2.1.2.1 hIp L0.1 L0.2.1 hp hne (by omega) (by omega) (by rw [hEn]; omega) (by rw [hEn]; omega)
    have hcal := hcal.mono (fun r h3 q => yP_PrQ (m := 2) (by omega) q)
    rw [hY] at hcal
    refine ev_callV dX6_layer_10 cv_X6_69_X6 ce_X6_repeated L0.1 rfl rfl rfl hcal (by omega) (by omega) (by omega) (Nat.le_of_ble_eq_true rfl) (fun v h3 q9 => ?_) (fun E q8 h3 r9 => ?_)
    · obtain ⟨q9, p9, e9, -⟩ := q9; cases e9
    · exact evx_out rfl (synE.pre L0.2.2.2.1 r9)
  | ok rr =>
    obtain ⟨row, hrow⟩ := yP_len1 (c := t) (m := 2) (by omega) hY
    obtain ⟨rows, q'⟩ := rr
    have hrow : rows = [row] := hrow
    subst hrow
    have hgo : p < q' ∧ q' ≤ t.length := yP_go (m := 2) (by omega) hp hY
    rw [prs_zP (by omega) hY] at hc hk ⊢
    have hzg := zP_ge (t := t) (m := 2) (f := f) (nst := ne) (q := q') (acc := [row]) (by omega) (by omega) (fun _ => by omega)
    refine ev_newC (c' := c - 1) (k' := k - 3) [vz 0, .null, vz 0] dX6_layer_0 cf_J26 q1615 q376 q152 rfl (by omega) (by omega) (fun qm1 hp_m2 em3 Bm4 Hqm1_m5 fm6 => ?_)
    have HP_m7 := (fm6 _ (ne_no HP em3)).trans HP
    have zm8 := ((Fr.refl (g := g) _ [])).fresh em3
    have Fm9 := ((Fr.refl (g := g) _ [])).alloc (Or.inl ⟨_, Hqm1_m5⟩) fm6 em3
    refine ev_dup dX6_layer_3 rfl ?_
    refine ev_callVR dX6_layer_4 ci_X6_51 ce_J26_init Hqm1_m5 rfl rfl rfl (al_init hG Hqm1_m5 Bm4) (by omega) (by omega) (by omega) (Nat.le_of_ble_eq_true rfl) (fun vm10 hp_m10 Pm10 => ?_)
    obtain ⟨rfl, hnm10, frm10⟩ := Pm10
    have HP_m11 := frm10.keep HP_m7 (by simp only [List.mem_cons, List.not_mem_nil, or_false, not_or]; exact (ne_no HP em3))
    have Fm12 := (Fm9).call frm10 (fun x hx => Or.inr (Or.inl (by rw [List.mem_singleton.mp hx]; exact zm8)))
    refine ev_astore_n dX6_layer_7 (by decide) rfl ?_
    dsimp only [List.set]
    refine ev_aload_n dX6_layer_8 rfl ?_
    refine ev_aload_n dX6_layer_9 rfl ?_
    have HP2 := HP_m11
    have F2 := Fm12
    have L0 : LsS g I h ps tb tv cap ne t I (p) qm1 ([]) hp_m10 := ⟨HP2, HT.fr F2 (fun q => by cases q) (fun q => by cases q), (Gw.refl hSI).fr0 F2, F2.more (fun x hx => by cases hx), ⟨hIp, hSI.none zm8, zm8⟩, _, _, _, al_new (K0.fr F2).1.1 hnm10 Bm4, Or.inl K0.1.2⟩
    have hEn : endP (prs t f 1 ne p) = q' := by rw [← yP_end (m := 2) (by omega), hY]; rfl
    have hcal := IH f (by omega) ne p I hp_m10 ps tb tv cap (d - 1) (20 * q' + 10 - 20 * p) (1000 * q' + 100 - 1000 * p) (K0.fr L0.2.2.2.1) hB L0.2.2.1.2.1 hIp L0.1 L0.2.1 hp hne (by omega) (by omega) (by rw [hEn]; omega) (by rw [hEn]; omega)
    have hcal := hcal.mono (fun r h3 q => yP_PrQ (m := 2) (by omega) q)
    rw [hY] at hcal
    refine ev_callV dX6_layer_10 cv_X6_69_X6 ce_X6_repeated L0.1 rfl rfl rfl hcal (by omega) (by omega) (by omega) (Nat.le_of_ble_eq_true rfl) (fun v h3 q9 => ?_) (fun E q8 h3 r9 => by obtain ⟨a9, n9, J9, e9, -⟩ := r9; cases e9)
    obtain ⟨a, n2, J2, e9, GJ, NJ, PJ, FJ⟩ := q9
    cases e9
    have NJ : NodeAt J2 n2 a (tidy row) := by have z : NodeAt J2 n2 a (tidy ([row].flatten)) := NJ; rw [List.flatten_cons, List.flatten_nil, List.append_nil] at z; exact z
    have L3 : LsS g I h ps tb tv cap ne t J2 (q') qm1 ([]) h3 := L0.part GJ PJ FJ
    have hrl : ([] : List Nat).length = 0 := rfl
    have hR0 : RowsAt I 0 [] [] := ⟨rfl, fun i a row h1 => by simp at h1⟩
    obtain ⟨lPL4, lTL4, lGL4, lFL4, ljL4, vL49, cL49, mcL49, lAL4, lvL4⟩ := id L3
    have laL4 := lAL4.1
    refine ev_callVR dX6_layer_13 cv_X6_56_J26 ce_J26_add lAL4.1 rfl rfl rfl (al_add hG (K0.fr lFL4).1.1 lAL4 (by rw [hrl]; omega) (Or.inl (by obtain ⟨κ, fs, e⟩ := NJ.clsE; exact ⟨_, lGL4.2.1 _ _ e⟩))) (by omega) (by omega) (by rw [hrl]; omega) (Nat.le_of_ble_eq_true rfl) (fun vL4 hL4 PL4 => ?_)
    obtain ⟨rfl, wL4, cwL4, A2L4, hwL4, f2L4⟩ := PL4
    have L4 := LsS.add lPL4 lTL4 lGL4 lFL4 ljL4 lAL4 lvL4 A2L4 hwL4 f2L4
    refine ev_istore_n dX6_layer_16 (by decide) rfl ?_
    dsimp only [List.set]
    exact loop_layer hG K0 hB hu9 hl hSI hIp (F := f + 1) IH hne (by omega) f (by omega) J2 hL4 q' (max 0 n2) _ _ ([] ++ [a]) ([] ++ [row]) _ L4 (hR0.app GJ.1 NJ) (Nat.le_refl _) (by show 1 ≤ q'; omega) (by omega) (fun _ => by omega) (by show 20 * endP (zP t 2 f ne q' [row]) + 1 ≤ _; omega) (by show 1000 * endP (zP t 2 f ne q' [row]) + 2 ≤ _; omega)
set_option maxRecDepth 100000 in
set_option maxHeartbeats 4000000 in
theorem end_series (hG : GKx g) (K0 : KC g h0) (hB : gB g ≤ ps) (hu9 : ∀ u ∈ t, u < 128) (hl : t.length ≤ 100) (hSI : Sub I h0) {q q1 n : Nat} {rs : List Nat} {acc : List (List Nd)} {x2 : Int} (L : LsS g I h0 ps tb tv cap ne t J (q) q1 (rs) h) (R : RowsAt J n rs acc) (hr1 : 1 ≤ rs.length) (hrq : rs.length ≤ q) (hq : q ≤ t.length) (hd : 7 ≤ d) (hc : 1 ≤ c) (hk : 2 ≤ k) : Ev g mX6_series d c k (PrQ g I h0 ps tb ne 3 (.ok (acc, q))) 38 [some (.ref ps), some (.ref q1), some (vz x2)] [] h := by
  obtain ⟨lP, lT, lG, lF, lj, v9, c9, mc9, lA, lv⟩ := id L
  have la := lA.1
  refine ev_iconstZ dX6_series_38 ?_
  refine ev_aload_n dX6_series_39 rfl ?_
  obtain ⟨fq, a3, a4⟩ := id lA.2.2.1
  refine ev_callSR dX6_series_40 cs_X6_63 ce_X16_of rfl rfl (k_of16 (b := false) (rs := rs) hG la a3 a4 ⟨lA.2.2.2.2.1, by have := lA.2.2.2.2.2.1; omega⟩ (by omega) hr1 (fun q hq => by obtain ⟨κ, fs, e⟩ := R.cls hq; exact ⟨κ, fs, lG.2.1 _ _ e⟩)) (by omega) (by omega) (by omega) (Nat.le_of_ble_eq_true rfl) (fun v h2 q => ?_)
  obtain ⟨r, rfl, hr, F2⟩ := q
  refine ev_areturn dX6_series_43 rfl (Or.inl ⟨_, rfl⟩) (Or.inr ⟨_, rfl⟩) ?_
  rcases hr with ⟨rfl, rfl⟩ | ⟨hn1, zr, Br, hr⟩
  · obtain ⟨row, rfl⟩ : ∃ row, acc = [row] := List.length_eq_one_iff.mp (by rw [← R.1]; rfl)
    refine ⟨r, n, J, rfl, lG, ?_, lP, lF⟩
    show NodeAt J n r (tidy ((7, 0, 1, [], []) :: [row].flatten))
    rw [tidy_f (by decide), List.flatten_cons, List.flatten_nil, List.append_nil]
    exact R.2 0 r row rfl rfl
  · have hlen := lA.2.2.2.2.1
    have hv0 : h0 v9 = none := by
      have hBg := hG
      rcases lv with e | e
      · rcases lA.2.2.2.2.2.2 with ⟨-, q⟩ | ⟨-, q⟩
        · omega
        · omega
      · exact e.1
    have G1 := (lG.fr0 F2).add hSI (F2.keep la (fun q => by cases q)) lj.2.2
    have s1 := (lG.fr0 F2).subadd (F2.keep la (fun q => by cases q))
    have G2 := G1.add hSI (F2.keep a3 (fun q => by cases q)) hv0 (lA.cap (by omega))
    have s2 := G1.subadd (F2.keep a3 (fun q => by cases q))
    have zr0 : h0 r = none := lF.fresh zr
    have G3 := G2.add hSI hr zr0
    have s3 := G2.subadd hr
    refine ⟨r, n + 1, _, rfl, G3, ?_, F2.keep lP (fun q => by cases q), lF.call F2 nil_in⟩
    have hln2 : 1 < acc.length := by rw [← R.1]; omega
    show NodeAt _ (n + 1) r (tidy ((7, 0, acc.length, [], []) :: acc.flatten))
    rw [tidy_t (by unfold kpNd; rw [decide_eq_true (p := 1 < acc.length) hln2]; rfl), tidy_flat]
    exact NodeAt.sev R (fun x y hx => s3 _ _ (s2 _ _ (s1 _ _ hx))) (by omega) (fun q => by rw [q] at hr1; exact absurd hr1 (by decide)) ⟨q1, v9, c9, mc9, fq, hs_same _ _ _, s3 _ _ (s2 _ _ (hs_same _ _ _)), s3 _ _ (hs_same _ _ _), a4, hlen⟩
set_option maxRecDepth 100000 in
set_option maxHeartbeats 4000000 in
theorem loop_series (hG : GKx g) (K0 : KC g h0) (hB : gB g ≤ ps) (hu9 : ∀ u ∈ t, u < 128) (hl : t.length ≤ 100) (hSI : Sub I h0) (hIp : I ps = none) {q1 F : Nat} (IH : ∀ f, f < F → ∀ ne' p', PCon g t f 2 ne' p') (hne : ne ≤ 10) (hd : 5 * (10 - ne) + 20 + 3 ≤ d) : ∀ (f : Nat), f < F → ∀ (J h : HM) (q n c k : Nat) (rs : List Nat) (acc : List (List Nd)) (x2 : Int), LsS g I h0 ps tb tv cap ne t J (q) q1 (rs) h → RowsAt J n rs acc → 1 ≤ rs.length → rs.length ≤ q → q ≤ t.length → (hrV t q = 59 → 4 * (t.length - (q + 1)) + 3 + 1 ≤ f) → 20 * endP (zP t 3 f ne q acc) + 1 ≤ c + 20 * q → 1000 * endP (zP t 3 f ne q acc) + 2 ≤ k + 1000 * q → Ev g mX6_series d c k (PrQ g I h0 ps tb ne 3 (zP t 3 f ne q acc)) 17 [some (.ref ps), some (.ref q1), some (vz x2)] [] h := by
  intro f
  induction f with
  | zero =>
    intro hf J h q n c k rs acc x2 L R hr1 hrq hq hfu hc hk
    have hs : hrV t q ≠ 59 := fun e => by have := hfu e; omega
    have hz : zP t 3 0 ne q acc = .ok (acc, q) := if_neg hs
    rw [hz] at hc hk ⊢
    have hc : 20 * q + 1 ≤ c + 20 * q := hc
    have hk : 1000 * q + 2 ≤ k + 1000 * q := hk
    refine ev_aload_n dX6_series_17 rfl ?_
    refine ev_bipushZ dX6_series_18 rfl ?_
    have hb : nx t q 59 59 = false := by rw [nx_eq]; exact decide_eq_false hs
    have hk2 := k_takes (lo := 59) hG L.1 L.2.1 hu9 (by omega) (by omega) (by omega) hB
    rw [hb] at hk2
    refine ev_callVR dX6_series_20 cv_X6_60_X6 ce_X6_takes L.1 rfl rfl rfl hk2 (by omega) (by omega) (by omega) (Nat.le_of_ble_eq_true rfl) (fun v2 h2 P2 => ?_)
    obtain ⟨rfl, hp2, f2⟩ := P2
    have L2 : LsS g I h0 ps tb tv cap ne t J (q) q1 (rs) h2 := L.take hp2 f2
    refine ev_if_eqB (tgt := 38) dX6_series_23 (by decide) (fun c23 => ?_) (fun c23 => by cases c23)
    exact end_series hG K0 hB hu9 hl hSI L2 R hr1 hrq hq (by omega) (by omega) (by omega)
  | succ f ih =>
    intro hf J h q n c k rs acc x2 L R hr1 hrq hq hfu hc hk
    by_cases hs : hrV t q = 59
    · have hlt := hrV_in hs (by decide)
      have hfu := hfu hs
      cases hY : yP t 3 f ne (q + 1) with
      | error e =>
        rw [zP_err (by omega) hs hY] at hc hk ⊢
        have hc : 20 * e + 1 ≤ c + 20 * q := hc
        have hk : 1000 * e + 2 ≤ k + 1000 * q := hk
        refine ev_aload_n dX6_series_17 rfl ?_
        refine ev_bipushZ dX6_series_18 rfl ?_
        have hb : nx t q 59 59 = true := by rw [nx_eq]; exact decide_eq_true hs
        have hk2 := k_takes (lo := 59) hG L.1 L.2.1 hu9 (by omega) (by omega) (by omega) hB
        rw [hb] at hk2
        refine ev_callVR dX6_series_20 cv_X6_60_X6 ce_X6_takes L.1 rfl rfl rfl hk2 (by omega) (by omega) (by omega) (Nat.le_of_ble_eq_true rfl) (fun v2 h2 P2 => ?_)
        obtain ⟨rfl, hp2, f2⟩ := P2
        have L2 : LsS g I h0 ps tb tv cap ne t J (q + 1) q1 (rs) h2 := L.take hp2 f2
        refine ev_if_eqB (tgt := 38) dX6_series_23 (by decide) (fun c23 => by cases c23) (fun c23 => ?_)
        refine ev_aload_n dX6_series_26 rfl ?_
        refine ev_aload_n dX6_series_27 rfl ?_
        have hEn : endP (prs t f 2 ne (q + 1)) = e := by rw [← yP_end (m := 3) (by omega), hY]; rfl
        have hcal := IH f (by omega) ne (q + 1) J h2 ps tb tv cap (d - 1) (20 * e + 14 - 20 * (q + 1)) (1000 * e + 330 - 1000 * (q + 1)) (K0.fr L2.2.2.2.1) hB L2.2.2.1.2.1 L2.2.2.2.2.1.1 L2.1 L2.2.1 (by omega) hne (by omega) (by omega) (by rw [hEn]; omega) (by rw [hEn]; omega)
        have hcal := hcal.mono (fun r h3 q => yP_PrQ (m := 3) (by omega) q)
        rw [hY] at hcal
        refine ev_callV dX6_series_28 cv_X6_52_X6 ce_X6_layer L2.1 rfl rfl rfl hcal (by omega) (by omega) (by omega) (Nat.le_of_ble_eq_true rfl) (fun v h3 q9 => ?_) (fun E q8 h3 r9 => ?_)
        · obtain ⟨q9, p9, e9, -⟩ := q9; cases e9
        · exact evx_out rfl (synE.pre L2.2.2.2.1 r9)
      | ok rr =>
        obtain ⟨row, hrow⟩ := yP_len1 (c := t) (m := 3) (by omega) hY
        obtain ⟨rows, q'⟩ := rr
        have hrow : rows = [row] := hrow
        subst hrow
        have hgo : q + 1 < q' ∧ q' ≤ t.length := yP_go (m := 3) (by omega) (by omega) hY
        rw [zP_ok (by omega) hs hY] at hc hk ⊢
        have hzg := zP_ge (t := t) (m := 3) (f := f) (nst := ne) (q := q') (acc := acc ++ [row]) (by omega) (by omega) (fun _ => by omega)
        refine ev_aload_n dX6_series_17 rfl ?_
        refine ev_bipushZ dX6_series_18 rfl ?_
        have hb : nx t q 59 59 = true := by rw [nx_eq]; exact decide_eq_true hs
        have hk2 := k_takes (lo := 59) hG L.1 L.2.1 hu9 (by omega) (by omega) (by omega) hB
        rw [hb] at hk2
        refine ev_callVR dX6_series_20 cv_X6_60_X6 ce_X6_takes L.1 rfl rfl rfl hk2 (by omega) (by omega) (by omega) (Nat.le_of_ble_eq_true rfl) (fun v2 h2 P2 => ?_)
        obtain ⟨rfl, hp2, f2⟩ := P2
        have L2 : LsS g I h0 ps tb tv cap ne t J (q + 1) q1 (rs) h2 := L.take hp2 f2
        refine ev_if_eqB (tgt := 38) dX6_series_23 (by decide) (fun c23 => by cases c23) (fun c23 => ?_)
        refine ev_aload_n dX6_series_26 rfl ?_
        refine ev_aload_n dX6_series_27 rfl ?_
        have hEn : endP (prs t f 2 ne (q + 1)) = q' := by rw [← yP_end (m := 3) (by omega), hY]; rfl
        have hcal := IH f (by omega) ne (q + 1) J h2 ps tb tv cap (d - 1) (20 * q' + 14 - 20 * (q + 1)) (1000 * q' + 330 - 1000 * (q + 1)) (K0.fr L2.2.2.2.1) hB L2.2.2.1.2.1 L2.2.2.2.2.1.1 L2.1 L2.2.1 (by omega) hne (by omega) (by omega) (by rw [hEn]; omega) (by rw [hEn]; omega)
        have hcal := hcal.mono (fun r h3 q => yP_PrQ (m := 3) (by omega) q)
        rw [hY] at hcal
        refine ev_callV dX6_series_28 cv_X6_52_X6 ce_X6_layer L2.1 rfl rfl rfl hcal (by omega) (by omega) (by omega) (Nat.le_of_ble_eq_true rfl) (fun v h3 q9 => ?_) (fun E q8 h3 r9 => by obtain ⟨a9, n9, J9, e9, -⟩ := r9; cases e9)
        obtain ⟨a, n2, J2, e9, GJ, NJ, PJ, FJ⟩ := q9
        cases e9
        have NJ : NodeAt J2 n2 a (tidy row) := by have z : NodeAt J2 n2 a (tidy ([row].flatten)) := NJ; rw [List.flatten_cons, List.flatten_nil, List.append_nil] at z; exact z
        have L3 : LsS g I h0 ps tb tv cap ne t J2 (q') q1 (rs) h3 := L2.part GJ PJ FJ
        have hrl : rs.length = rs.length := rfl
        obtain ⟨lPL4, lTL4, lGL4, lFL4, ljL4, vL49, cL49, mcL49, lAL4, lvL4⟩ := id L3
        have laL4 := lAL4.1
        refine ev_callVR dX6_series_31 cv_X6_56_J26 ce_J26_add lAL4.1 rfl rfl rfl (al_add hG (K0.fr lFL4).1.1 lAL4 (by rw [hrl]; omega) (Or.inl (by obtain ⟨κ, fs, e⟩ := NJ.clsE; exact ⟨_, lGL4.2.1 _ _ e⟩))) (by omega) (by omega) (by rw [hrl]; omega) (Nat.le_of_ble_eq_true rfl) (fun vL4 hL4 PL4 => ?_)
        obtain ⟨rfl, wL4, cwL4, A2L4, hwL4, f2L4⟩ := PL4
        have L4 := LsS.add lPL4 lTL4 lGL4 lFL4 ljL4 lAL4 lvL4 A2L4 hwL4 f2L4
        refine ev_istore_n dX6_series_34 (by decide) rfl ?_
        dsimp only [List.set]
        refine ev_goto (tgt := 17) dX6_series_35 (by decide) ?_
        exact ih (by omega) J2 hL4 q' (max n n2) _ _ (rs ++ [a]) (acc ++ [row]) _ L4 (R.app GJ.1 NJ) (by rw [List.length_append]; omega) (by rw [List.length_append, List.length_singleton]; omega) (by omega) (fun _ => by omega) (by omega) (by omega)
    · have hz : zP t 3 (f + 1) ne q acc = .ok (acc, q) := if_neg hs
      rw [hz] at hc hk ⊢
      have hc : 20 * q + 1 ≤ c + 20 * q := hc
      have hk : 1000 * q + 2 ≤ k + 1000 * q := hk
      refine ev_aload_n dX6_series_17 rfl ?_
      refine ev_bipushZ dX6_series_18 rfl ?_
      have hb : nx t q 59 59 = false := by rw [nx_eq]; exact decide_eq_false hs
      have hk2 := k_takes (lo := 59) hG L.1 L.2.1 hu9 (by omega) (by omega) (by omega) hB
      rw [hb] at hk2
      refine ev_callVR dX6_series_20 cv_X6_60_X6 ce_X6_takes L.1 rfl rfl rfl hk2 (by omega) (by omega) (by omega) (Nat.le_of_ble_eq_true rfl) (fun v2 h2 P2 => ?_)
      obtain ⟨rfl, hp2, f2⟩ := P2
      have L2 : LsS g I h0 ps tb tv cap ne t J (q) q1 (rs) h2 := L.take hp2 f2
      refine ev_if_eqB (tgt := 38) dX6_series_23 (by decide) (fun c23 => ?_) (fun c23 => by cases c23)
      exact end_series hG K0 hB hu9 hl hSI L2 R hr1 hrq hq (by omega) (by omega) (by omega)
set_option maxRecDepth 100000 in
set_option maxHeartbeats 4000000 in
theorem k_series6 (hG : GKx g) (K0 : KC g h) (hB : gB g ≤ ps) (hu9 : ∀ u ∈ t, u < 128) (hl : t.length ≤ 100) (hSI : Sub I h) (hIp : I ps = none) {f p : Nat} (HP : ParC h ps tb p ne) (HT : SBh g h tb tv cap t) (hp : p ≤ t.length) (hne : ne ≤ 10) (hf : 4 * (t.length - p) + 3 ≤ f) (IH : ∀ f', f' < f + 1 → ∀ ne' p', PCon g t f' 2 ne' p') (hd : 5 * (10 - ne) + 20 + 3 ≤ d) (hc : 20 * endP (prs t (f + 1) 3 ne p) + 18 ≤ c + 20 * p) (hk : 1000 * endP (prs t (f + 1) 3 ne p) + 560 ≤ k + 1000 * p) : Kc g mX6_series d c k [.ref ps] h (PrQ g I h ps tb ne 3 (prs t (f + 1) 3 ne p)) := by
  refine Kc.of (ls := [some (.ref ps), none, none]) (by decide +kernel) (Nat.le_of_ble_eq_true rfl) rfl ?_
  have hge0 := prs_ge (t := t) (f + 1) 3 ne p (by omega) hp (by omega)
  cases hY : yP t 3 f ne p with
  | error e =>
    rw [prs_yerr (by omega) hY] at hc hk hge0 ⊢
    have hge0 : p ≤ e := hge0
    have hc : 20 * e + 18 ≤ c + 20 * p := hc
    have hk : 1000 * e + 560 ≤ k + 1000 * p := hk
    refine ev_newC (c' := c - 1) (k' := k - 3) [vz 0, .null, vz 0] dX6_series_0 cf_J26 q1615 q376 q152 rfl (by omega) (by omega) (fun qm1 hp_m2 em3 Bm4 Hqm1_m5 fm6 => ?_)
    have HP_m7 := (fm6 _ (ne_no HP em3)).trans HP
    have zm8 := ((Fr.refl (g := g) _ [])).fresh em3
    have Fm9 := ((Fr.refl (g := g) _ [])).alloc (Or.inl ⟨_, Hqm1_m5⟩) fm6 em3
    refine ev_dup dX6_series_3 rfl ?_
    refine ev_callVR dX6_series_4 ci_X6_51 ce_J26_init Hqm1_m5 rfl rfl rfl (al_init hG Hqm1_m5 Bm4) (by omega) (by omega) (by omega) (Nat.le_of_ble_eq_true rfl) (fun vm10 hp_m10 Pm10 => ?_)
    obtain ⟨rfl, hnm10, frm10⟩ := Pm10
    have HP_m11 := frm10.keep HP_m7 (by simp only [List.mem_cons, List.not_mem_nil, or_false, not_or]; exact (ne_no HP em3))
    have Fm12 := (Fm9).call frm10 (fun x hx => Or.inr (Or.inl (by rw [List.mem_singleton.mp hx]; exact zm8)))
    refine ev_astore_n dX6_series_7 (by decide) rfl ?_
    dsimp only [List.set]
    refine ev_aload_n dX6_series_8 rfl ?_
    refine ev_aload_n dX6_series_9 rfl ?_
    have HP2 := HP_m11
    have F2 := Fm12
    have L0 : LsS g I h ps tb tv cap ne t I (p) qm1 ([]) hp_m10 := ⟨HP2, HT.fr F2 (fun q => by cases q) (fun q => by cases q), (Gw.refl hSI).fr0 F2, F2.more (fun x hx => by cases hx), ⟨hIp, hSI.none zm8, zm8⟩, _, _, _, al_new (K0.fr F2).1.1 hnm10 Bm4, Or.inl K0.1.2⟩
    have hEn : endP (prs t f 2 ne p) = e := by rw [← yP_end (m := 3) (by omega), hY]; rfl
    have hcal := IH f (by omega) ne p I hp_m10 ps tb tv cap (d - 1) (20 * e + 14 - 20 * p) (1000 * e + 330 - 1000 * p) (K0.fr L0.2.2.2.1) hB L0.2.2.1.2.1 hIp L0.1 L0.2.1 hp hne (by omega) (by omega) (by rw [hEn]; omega) (by rw [hEn]; omega)
    have hcal := hcal.mono (fun r h3 q => yP_PrQ (m := 3) (by omega) q)
    rw [hY] at hcal
    refine ev_callV dX6_series_10 cv_X6_52_X6 ce_X6_layer L0.1 rfl rfl rfl hcal (by omega) (by omega) (by omega) (Nat.le_of_ble_eq_true rfl) (fun v h3 q9 => ?_) (fun E q8 h3 r9 => ?_)
    · obtain ⟨q9, p9, e9, -⟩ := q9; cases e9
    · exact evx_out rfl (synE.pre L0.2.2.2.1 r9)
  | ok rr =>
    obtain ⟨row, hrow⟩ := yP_len1 (c := t) (m := 3) (by omega) hY
    obtain ⟨rows, q'⟩ := rr
    have hrow : rows = [row] := hrow
    subst hrow
    have hgo : p < q' ∧ q' ≤ t.length := yP_go (m := 3) (by omega) hp hY
    rw [prs_zP (by omega) hY] at hc hk ⊢
    have hzg := zP_ge (t := t) (m := 3) (f := f) (nst := ne) (q := q') (acc := [row]) (by omega) (by omega) (fun _ => by omega)
    refine ev_newC (c' := c - 1) (k' := k - 3) [vz 0, .null, vz 0] dX6_series_0 cf_J26 q1615 q376 q152 rfl (by omega) (by omega) (fun qm1 hp_m2 em3 Bm4 Hqm1_m5 fm6 => ?_)
    have HP_m7 := (fm6 _ (ne_no HP em3)).trans HP
    have zm8 := ((Fr.refl (g := g) _ [])).fresh em3
    have Fm9 := ((Fr.refl (g := g) _ [])).alloc (Or.inl ⟨_, Hqm1_m5⟩) fm6 em3
    refine ev_dup dX6_series_3 rfl ?_
    refine ev_callVR dX6_series_4 ci_X6_51 ce_J26_init Hqm1_m5 rfl rfl rfl (al_init hG Hqm1_m5 Bm4) (by omega) (by omega) (by omega) (Nat.le_of_ble_eq_true rfl) (fun vm10 hp_m10 Pm10 => ?_)
    obtain ⟨rfl, hnm10, frm10⟩ := Pm10
    have HP_m11 := frm10.keep HP_m7 (by simp only [List.mem_cons, List.not_mem_nil, or_false, not_or]; exact (ne_no HP em3))
    have Fm12 := (Fm9).call frm10 (fun x hx => Or.inr (Or.inl (by rw [List.mem_singleton.mp hx]; exact zm8)))
    refine ev_astore_n dX6_series_7 (by decide) rfl ?_
    dsimp only [List.set]
    refine ev_aload_n dX6_series_8 rfl ?_
    refine ev_aload_n dX6_series_9 rfl ?_
    have HP2 := HP_m11
    have F2 := Fm12
    have L0 : LsS g I h ps tb tv cap ne t I (p) qm1 ([]) hp_m10 := ⟨HP2, HT.fr F2 (fun q => by cases q) (fun q => by cases q), (Gw.refl hSI).fr0 F2, F2.more (fun x hx => by cases hx), ⟨hIp, hSI.none zm8, zm8⟩, _, _, _, al_new (K0.fr F2).1.1 hnm10 Bm4, Or.inl K0.1.2⟩
    have hEn : endP (prs t f 2 ne p) = q' := by rw [← yP_end (m := 3) (by omega), hY]; rfl
    have hcal := IH f (by omega) ne p I hp_m10 ps tb tv cap (d - 1) (20 * q' + 14 - 20 * p) (1000 * q' + 330 - 1000 * p) (K0.fr L0.2.2.2.1) hB L0.2.2.1.2.1 hIp L0.1 L0.2.1 hp hne (by omega) (by omega) (by rw [hEn]; omega) (by rw [hEn]; omega)
    have hcal := hcal.mono (fun r h3 q => yP_PrQ (m := 3) (by omega) q)
    rw [hY] at hcal
    refine ev_callV dX6_series_10 cv_X6_52_X6 ce_X6_layer L0.1 rfl rfl rfl hcal (by omega) (by omega) (by omega) (Nat.le_of_ble_eq_true rfl) (fun v h3 q9 => ?_) (fun E q8 h3 r9 => by obtain ⟨a9, n9, J9, e9, -⟩ := r9; cases e9)
    obtain ⟨a, n2, J2, e9, GJ, NJ, PJ, FJ⟩ := q9
    cases e9
    have NJ : NodeAt J2 n2 a (tidy row) := by have z : NodeAt J2 n2 a (tidy ([row].flatten)) := NJ; rw [List.flatten_cons, List.flatten_nil, List.append_nil] at z; exact z
    have L3 : LsS g I h ps tb tv cap ne t J2 (q') qm1 ([]) h3 := L0.part GJ PJ FJ
    have hrl : ([] : List Nat).length = 0 := rfl
    have hR0 : RowsAt I 0 [] [] := ⟨rfl, fun i a row h1 => by simp at h1⟩
    obtain ⟨lPL4, lTL4, lGL4, lFL4, ljL4, vL49, cL49, mcL49, lAL4, lvL4⟩ := id L3
    have laL4 := lAL4.1
    refine ev_callVR dX6_series_13 cv_X6_56_J26 ce_J26_add lAL4.1 rfl rfl rfl (al_add hG (K0.fr lFL4).1.1 lAL4 (by rw [hrl]; omega) (Or.inl (by obtain ⟨κ, fs, e⟩ := NJ.clsE; exact ⟨_, lGL4.2.1 _ _ e⟩))) (by omega) (by omega) (by rw [hrl]; omega) (Nat.le_of_ble_eq_true rfl) (fun vL4 hL4 PL4 => ?_)
    obtain ⟨rfl, wL4, cwL4, A2L4, hwL4, f2L4⟩ := PL4
    have L4 := LsS.add lPL4 lTL4 lGL4 lFL4 ljL4 lAL4 lvL4 A2L4 hwL4 f2L4
    refine ev_istore_n dX6_series_16 (by decide) rfl ?_
    dsimp only [List.set]
    exact loop_series hG K0 hB hu9 hl hSI hIp (F := f + 1) IH hne (by omega) f (by omega) J2 hL4 q' (max 0 n2) _ _ ([] ++ [a]) ([] ++ [row]) _ L4 (hR0.app GJ.1 NJ) (Nat.le_refl _) (by show 1 ≤ q'; omega) (by omega) (fun _ => by omega) (by show 20 * endP (zP t 3 f ne q' [row]) + 1 ≤ _; omega) (by show 1000 * endP (zP t 3 f ne q' [row]) + 2 ≤ _; omega)
end V7S

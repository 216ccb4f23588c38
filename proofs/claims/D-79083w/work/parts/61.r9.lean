/-! the reference reads: what begins a part (printed by gen) -/
section R9
variable {L1 : Nat → Int} {g : GB} {M : MI} {d c k : Nat} {Q : RS → HM → Prop} {pc : Nat} {ls : List (Option Value)} {st : List Value} {h : HM} {a b : Int} {ad : Nat → Nat} {o : Nat} {h0 : HM} {s : MSt}
/-- sound states of the machine that reads *-/
def rmOk (c : List Nat) (p : Nat) (ns : List Nd) (lv : List (Nat × Nat)) : Prop := p ≤ c.length ∧ ns.length ≤ 3 * p + 2 ∧ dsum ns ≤ p ∧ 1 ≤ lv.length ∧ lv.length ≤ 11 ∧ ∀ x ∈ lv, x.1 < ns.length ∧ x.2 < ns.length
abbrev rmS (c : List Nat) (p0 : Nat) (S : Rm) : Prop := S.2.1 ≤ c.length ∧ (S.1 ≠ 3 → p0 < S.2.1 ∧ rmOk c S.2.1 S.2.2.1 S.2.2.2)
theorem rmS_opn {c : List Nat} {p : Nat} {ns : List Nd} {lv : List (Nat × Nat)} (h1 : p ≤ c.length) (h2 : ns.length ≤ 3 * p + 3) (h3 : dsum ns ≤ p) (h4 : ∀ x ∈ lv, x.1 < ns.length ∧ x.2 < ns.length) : rmS c p (opnM c p ns lv) := by
  unfold opnM
  split
  · rename_i q
    have hlt := hrV_in q.1 (by decide)
    refine ⟨hlt, fun _ => ⟨Nat.lt_succ_self p, hlt, ?_, ?_, ?_, ?_, fun x hx => ?_⟩⟩
    · show (serN ns).length ≤ _
      unfold serN
      rw [List.length_append]
      show ns.length + 2 ≤ 3 * (p + 1) + 2
      omega
    · show dsum (serN ns) ≤ _
      unfold serN
      rw [dsum_app]
      show dsum ns + 0 ≤ p + 1
      omega
    · show 1 ≤ lv.length + 1; omega
    · show lv.length + 1 ≤ 11; omega
    · have el : (serN ns).length = ns.length + 2 := by unfold serN; rw [List.length_append]; rfl
      show x.1 < (serN ns).length ∧ x.2 < (serN ns).length
      rw [el]
      rcases List.mem_cons.mp hx with rfl | hx
      · dsimp only; omega
      · have := h4 x hx; omega
  · exact ⟨h1, fun q => absurd rfl q⟩
theorem rmS_phr {c : List Nat} {k v p p0 : Nat} {b : Bool} {ns : List Nd} {lv : List (Nat × Nat)} (h0 : p0 ≤ p) (h1 : p ≤ c.length) (h2 : ns.length ≤ 3 * p0 + 2) (h3 : dsum ns ≤ p0) (h5 : 1 ≤ lv.length ∧ lv.length ≤ 11) (h4 : ∀ x ∈ lv, x.1 < ns.length ∧ x.2 < ns.length) : rmS c p0 (phrM c k v p b ns lv) := by
  have hl := phrF_le (c := c) (p := p) (b := b) h1
  unfold phrM
  refine ⟨hl.1, fun q => ?_⟩
  have hb : (phrF c p b).1 = true := by
    cases hq : (phrF c p b).1 with
    | true => rfl
    | false => exact absurd (by show (if (phrF c p b).1 = true then 1 else 3) = 3; rw [hq]; rfl) q
  have hk := phrF_ok hb
  refine ⟨by show p0 < (phrF c p b).2.2.2; omega, hl.1, ?_, ?_, h5.1, h5.2, fun x hx => ?_⟩
  · show (ns ++ [_]).length ≤ 3 * (phrF c p b).2.2.2 + 2
    rw [List.length_append]
    show ns.length + 1 ≤ _
    omega
  · show dsum (ns ++ [_]) ≤ (phrF c p b).2.2.2
    rw [dsum_one]
    show dsum ns + ((phrF c p b).2.1.length + (phrF c p b).2.2.1.length) ≤ _
    omega
  · show x.1 < (ns ++ [_]).length ∧ x.2 < (ns ++ [_]).length
    rw [List.length_append]
    have := h4 x hx
    show x.1 < ns.length + 1 ∧ x.2 < ns.length + 1
    omega
theorem rmS.from {c : List Nat} {p p0 : Nat} {S : Rm} (h : rmS c p S) (h0 : p0 ≤ p) : rmS c p0 S := ⟨h.1, fun q => ⟨by have := (h.2 q).1; omega, (h.2 q).2⟩⟩
theorem rmS_unt {c : List Nat} {p : Nat} {ns : List Nd} {lv : List (Nat × Nat)} (h : rmOk c p ns lv) : rmS c p (untM c p ns lv) := by
  obtain ⟨h1, h2, h3, h4, h5, h6⟩ := h
  unfold untM
  split
  · rename_i q
    have hlt := hrV_in q (by decide)
    refine ⟨hlt, fun _ => ⟨Nat.lt_succ_self p, hlt, ?_, ?_, h4, h5, fun x hx => ?_⟩⟩
    · show (ns ++ [_]).length ≤ 3 * (p + 1) + 2
      rw [List.length_append]
      show ns.length + 1 ≤ _
      omega
    · show dsum (ns ++ [_]) ≤ p + 1
      rw [dsum_one]
      show dsum ns + 0 ≤ _
      omega
    · show x.1 < (ns ++ [_]).length ∧ x.2 < (ns ++ [_]).length
      rw [List.length_append]
      have := h6 x hx
      show x.1 < ns.length + 1 ∧ x.2 < ns.length + 1
      omega
  · split
    · rename_i q
      have hlt := hrV_in q (by decide)
      split
      · rename_i q2
        have := hrV_ge (c := c) (p := p + 1) (by omega)
        exact rmS_phr (by omega) (by omega) h2 h3 ⟨h4, h5⟩ h6
      · exact rmS_phr (by omega) (by omega) h2 h3 ⟨h4, h5⟩ h6
    · split
      · rename_i q
        have hlt : p < c.length := by
          rcases q with q | q
          · exact hrV_in q (by decide)
          · exact hrV_in q (by decide)
        split
        · refine (rmS_opn (p := p + 1) hlt ?_ ?_ (fun x hx => ?_)).from (by omega)
          · rw [List.length_append]; show ns.length + 1 ≤ _; omega
          · rw [dsum_one]; show dsum ns + 0 ≤ _; omega
          · rw [List.length_append]
            have := h6 x hx
            show x.1 < ns.length + 1 ∧ x.2 < ns.length + 1
            omega
        · exact ⟨h1, fun q => absurd rfl q⟩
      · split
        · exact rmS_opn h1 (by omega) h3 h6
        · exact rmS_phr (Nat.le_refl _) h1 h2 h3 ⟨h4, h5⟩ h6
theorem topL_mem {lv : List (Nat × Nat)} (h : 1 ≤ lv.length) : topL lv ∈ lv := by
  cases lv with
  | nil => simp at h
  | cons x lv => simp [topL]
theorem dsum_inc {ns : List Nd} {i : Nat} (h : i < ns.length) (j : Nat) : dsum (incB j ns i) = dsum ns := by
  unfold incB
  exact dsum_set (nd := ns.getD i noNd) (by rw [List.getD_eq_getElem?_getD, List.getElem?_eq_getElem h]; rfl) _ rfl
theorem rmOk_inc {c : List Nat} {p j i : Nat} {ns : List Nd} {lv : List (Nat × Nat)} (h : rmOk c p ns lv) (hi : i < ns.length) : rmOk c p (incB j ns i) lv := by
  obtain ⟨h1, h2, h3, h4, h5, h6⟩ := h
  exact ⟨h1, by rw [incB_len]; exact h2, by rw [dsum_inc hi]; exact h3, h4, h5, fun x hx => by rw [incB_len]; exact h6 x hx⟩
theorem rmOk_nd {c : List Nat} {p : Nat} {ns : List Nd} {nd : Nd} {lv : List (Nat × Nat)} (h : rmOk c p ns lv) (hp : p < c.length) (hd : dlen nd = 0) : rmOk c (p + 1) (ns ++ [nd]) lv := by
  obtain ⟨h1, h2, h3, h4, h5, h6⟩ := h
  refine ⟨hp, ?_, by rw [dsum_one, hd]; omega, h4, h5, fun x hx => ?_⟩
  · rw [List.length_append]; show ns.length + 1 ≤ _; omega
  · rw [List.length_append]
    have := h6 x hx
    show x.1 < ns.length + 1 ∧ x.2 < ns.length + 1
    omega
theorem rmS_beg {c : List Nat} {p : Nat} {ns : List Nd} {lv : List (Nat × Nat)} (h : rmOk c p ns lv) : rmS c p (begM c p ns lv) := by
  have ht := (h.2.2.2.2.2 _ (topL_mem h.2.2.2.1)).2
  have h1 := rmOk_inc (j := 1) h ht
  unfold begM
  split
  · rename_i q
    exact (rmS_unt (rmOk_nd h1 (isG_in q) rfl)).from (by omega)
  · exact rmS_unt h1
theorem rmS_fol {c : List Nat} {p : Nat} {ns : List Nd} {lv : List (Nat × Nat)} (h : rmOk c p ns lv) : (folM c p ns lv).2.1 ≤ c.length ∧ ((folM c p ns lv).1 ≤ 1 → p < (folM c p ns lv).2.1 ∧ rmOk c (folM c p ns lv).2.1 (folM c p ns lv).2.2.1 (folM c p ns lv).2.2.2) ∧ ((folM c p ns lv).1 = 2 → rmOk c (folM c p ns lv).2.1 (folM c p ns lv).2.2.1 (folM c p ns lv).2.2.2) := by
  obtain ⟨h1, h2, h3, h4, h5, h6⟩ := id h
  unfold folM
  split
  · rename_i q
    have hlt := hrV_in q.2 (by decide)
    have e : rmOk c (p + 1) ns lv.tail := ⟨hlt, by omega, by omega, by rw [List.length_tail]; omega, by rw [List.length_tail]; omega, fun x hx => h6 x (List.mem_of_mem_tail hx)⟩
    exact ⟨hlt, fun _ => ⟨Nat.lt_succ_self p, e⟩, fun _ => e⟩
  · split
    · rename_i q
      have hlt := hrV_in q (by decide)
      have ht := (h6 _ (topL_mem h4)).1
      have h0 := rmOk_nd (nd := (6, 0, 0, [], [])) (rmOk_inc (j := 1) h ht) hlt rfl
      have el : (incB 1 ns (topL lv).1 ++ [((6, 0, 0, [], []) : Nd)]).length = ns.length + 1 := by rw [List.length_append, incB_len]; rfl
      have e : rmOk c (p + 1) (incB 1 ns (topL lv).1 ++ [(6, 0, 0, [], [])]) (((topL lv).1, ns.length) :: lv.tail) := by
        obtain ⟨k1, k2, k3, k4, k5, k6⟩ := h0
        refine ⟨k1, k2, k3, by simp, by rw [List.length_cons, List.length_tail]; omega, fun x hx => ?_⟩
        rcases List.mem_cons.mp hx with rfl | hx
        · rw [el]; dsimp only; omega
        · exact k6 x (List.mem_of_mem_tail hx)
      exact ⟨hlt, fun _ => ⟨Nat.lt_succ_self p, e⟩, fun _ => e⟩
    · split
      · rename_i q
        have hlt := hrV_in q (by decide)
        have e : rmOk c (p + 1) ns lv := ⟨hlt, by omega, by omega, h4, h5, h6⟩
        exact ⟨hlt, fun _ => ⟨Nat.lt_succ_self p, e⟩, fun _ => e⟩
      · split
        · exact ⟨h1, fun q => by have : 2 ≤ 1 := q; omega, fun _ => h⟩
        · exact ⟨h1, fun q => by have : 3 ≤ 1 := q; omega, fun q => by have : 3 = 2 := q; omega⟩
/-- the reference holds the machine's state *-/
def rmAt (L1 : Nat → Int) (s : MSt) (c : List Nat) (S : Rm) : Prop := psAt L1 s c S.2.1 (decide (S.1 ≠ 3)) S.2.2.1 S.2.2.2
theorem rmAt_phr {s : MSt} {c : List Nat} {k v p : Nat} {b : Bool} {ns : List Nd} {lv : List (Nat × Nat)} (h : psAt L1 s c (phrF c p b).2.2.2 (phrF c p b).1 (ns ++ [(k, v, 0, (phrF c p b).2.1, (phrF c p b).2.2.1)]) lv) : bI (decide ((phrM c k v p b ns lv).1 = 0)) = 0 ∧ rmAt L1 s c (phrM c k v p b ns lv) := by
  unfold phrM rmAt
  cases hb : (phrF c p b).1 with
  | true => rw [hb] at h; exact ⟨rfl, h⟩
  | false => rw [hb] at h; exact ⟨rfl, h⟩
theorem rmAt_opn {s : MSt} {c : List Nat} {p : Nat} {ns : List Nd} {lv : List (Nat × Nat)} (h : if opnB c p true lv then psAt L1 s c (p + 1) true (serN ns) ((ns.length, ns.length + 1) :: lv) else psAt L1 s c p false ns lv) : s.1 36 = bI (decide ((opnM c p ns lv).1 = 0)) ∧ rmAt L1 s c (opnM c p ns lv) := by
  have e : opnB c p true lv = decide (hrV c p = 40 ∧ lv.length ≤ 10) := by unfold opnB; rw [Bool.true_and, Bool.decide_and]
  rw [e] at h
  unfold opnM rmAt
  by_cases q : hrV c p = 40 ∧ lv.length ≤ 10
  · rw [if_pos (decide_eq_true q)] at h
    rw [if_pos q]
    exact ⟨h.1.2.2.2.1, h⟩
  · rw [if_neg (by rw [decide_eq_true_eq]; exact q)] at h
    rw [if_neg q]
    exact ⟨h.1.2.2.2.1, h⟩
set_option maxRecDepth 100000 in
set_option maxHeartbeats 4000000 in
theorem k_begun {c1 : List Nat} {p : Nat} {ns : List Nd} {lv : List (Nat × Nat)} (hM : MX g ad o h0 s h) (hps : psAt L1 s c1 p true ns lv) (hok : rmOk c1 p ns lv) (hd : 8 ≤ d) : Kc g mX3_begun d 0 0 [.ref o] h (mP g ad o h0 (fun v1 s' => v1 = some (vz (bI (decide ((begM c1 p ns lv).1 = 0)))) ∧ fr s s' [35, 36, 37] [1, 38, 39] ∧ rmAt L1 s' c1 (begM c1 p ns lv))) := by
  refine Kc.of (ls := [some (.ref o), none, none, none]) (by decide +kernel) (Nat.le_of_ble_eq_true rfl) rfl ?_
  obtain ⟨hp, hn, hdn, hl1, hl11, htops⟩ := hok
  have hc100 := hps.1.2.2.1
  have htm := topL_mem hl1
  obtain ⟨li, hli⟩ : ∃ li, li = (topL lv).2 := ⟨_, rfl⟩
  have hil : li < ns.length := by rw [hli]; exact (htops _ htm).2
  have T220 : ∀ (s1 : MSt) (h : HM) (p2 : Nat) (ns2 : List Nd) (cc : Option Value), MX g ad o h0 s1 h → fr s s1 [35, 36, 37] [1, 38, 39] → psAt L1 s1 c1 p2 true ns2 lv → p2 ≤ c1.length → ns2.length ≤ 400 → dsum ns2 ≤ 200 → begM c1 p ns lv = opnM c1 p2 ns2 lv → Ev g mX3_begun d 0 0 (mP g ad o h0 (fun v1 s' => v1 = some (vz (bI (decide ((begM c1 p ns lv).1 = 0)))) ∧ fr s s' [35, 36, 37] [1, 38, 39] ∧ rmAt L1 s' c1 (begM c1 p ns lv))) 220 [some (.ref o), some (vz (li : Int)), cc, none] [] h := by
    intro s1 h p2 ns2 cc hM hfr hps hp2 hn2 hd2 heq
    refine ev_aload_n dX3_begun_220 rfl ?_
    refine mx_callP dX3_begun_221 cv_X3_269_X3 ce_X3_opensSeries hM rfl rfl (k_opensSeries (c1 := c1) (p := p2) (b1 := true) (ns := ns2) (lv := lv) hM hps (by omega) (by omega) (by have := hps.1.2.2.1; omega) hl11 (d := d - 1) (by omega)) (by omega) (Nat.le_of_ble_eq_true rfl) (fun v s' h hP hM => ?_)
    obtain ⟨rfl, f2, q2⟩ := hP
    obtain ⟨e36, hat⟩ := rmAt_opn q2
    refine ev_aload_n dX3_begun_224 rfl ?_
    refine mx_getI hM dX3_begun_225 gf_X3_231_X3 rfl ?_
    try simp only [uS_1, uA_1, uF_1, uS_2, uA_2a, uF_2a, Nat.reduceEqDiff, reduceIte, Int.reduceToNat, Int.toNat_natCast]
    rw [e36]
    refine ev_zreturn dX3_begun_228 rfl (narrow_zb (bI_o _)) ?_
    exact ⟨_, _, rfl, ⟨by rw [heq], hfr.trans f2, by rw [heq]; exact hat⟩, hM⟩
  have T121 : ∀ (s1 : MSt) (h : HM) (p2 of1 : Nat) (b2 : Bool) (ns2 : List Nd) (cx : Int), MX g ad o h0 s1 h → fr s s1 [35, 36, 37] [1, 38, 39] → psAt L1 s1 c1 p2 b2 ns2 lv → p2 ≤ c1.length → ns2.length ≤ 400 → dsum ns2 ≤ 200 → begM c1 p ns lv = phrM c1 1 of1 p2 b2 ns2 lv → Ev g mX3_begun d 0 0 (mP g ad o h0 (fun v1 s' => v1 = some (vz (bI (decide ((begM c1 p ns lv).1 = 0)))) ∧ fr s s' [35, 36, 37] [1, 38, 39] ∧ rmAt L1 s' c1 (begM c1 p ns lv))) 121 [some (.ref o), some (vz (li : Int)), some (vz cx), none] [vz (of1 : Int)] h := by
    intro s1 h p2 of1 b2 ns2 cx hM hfr hps hp2 hn2 hd2 heq
    refine ev_istore_n dX3_begun_121 (by decide) rfl ?_
    dsimp only [List.set]
    refine ev_aload_n dX3_begun_122 rfl ?_
    refine ev_iconstZ dX3_begun_123 ?_
    refine ev_iload_n dX3_begun_124 rfl ?_
    refine mx_callP dX3_begun_125 cv_X3_266_X3 ce_X3_phrase hM rfl rfl (k_phrase (c1 := c1) (p := p2) (b1 := b2) (ns := ns2) (lv := lv) (kd := 1) (v := of1) hM hps (by omega) (by have := hps.1.2.2.1; omega) hp2 (d := d - 1) (by omega)) (by omega) (Nat.le_of_ble_eq_true rfl) (fun v s' h hP hM => ?_)
    obtain ⟨rfl, f2, q2⟩ := hP
    obtain ⟨e0, hat⟩ := rmAt_phr q2
    refine ev_iconstZ dX3_begun_128 ?_
    refine ev_zreturn dX3_begun_129 rfl rfl ?_
    exact ⟨_, _, rfl, ⟨by rw [heq, e0], hfr.trans (f2.more rfl rfl), by rw [heq]; exact hat⟩, hM⟩
  have T53 : ∀ (s1 : MSt) (h : HM) (p1 : Nat) (ns1 : List Nd), MX g ad o h0 s1 h → fr s s1 [35, 36, 37] [1, 38, 39] → psAt L1 s1 c1 p1 true ns1 lv → p1 ≤ c1.length → ns1.length ≤ 390 → dsum ns1 ≤ 150 → begM c1 p ns lv = untM c1 p1 ns1 lv → Ev g mX3_begun d 0 0 (mP g ad o h0 (fun v1 s' => v1 = some (vz (bI (decide ((begM c1 p ns lv).1 = 0)))) ∧ fr s s' [35, 36, 37] [1, 38, 39] ∧ rmAt L1 s' c1 (begM c1 p ns lv))) 53 [some (.ref o), some (vz (li : Int)), none, none] [] h := by
    intro s1 h p1 ns1 hM hfr hps hp1 hn1 hd1 heq
    have hv := hrV_lt hps.1
    have hl12 := hps.1.2.2.1
    have T142 : ∀ (h : HM), MX g ad o h0 s1 h → (hrV c1 p1 = 109 ∨ hrV c1 p1 = 114) → Ev g mX3_begun d 0 0 (mP g ad o h0 (fun v1 s' => v1 = some (vz (bI (decide ((begM c1 p ns lv).1 = 0)))) ∧ fr s s' [35, 36, 37] [1, 38, 39] ∧ rmAt L1 s' c1 (begM c1 p ns lv))) 142 [some (.ref o), some (vz (li : Int)), some (vz (hrV c1 p1)), none] [] h := by
      intro h hM hmr
      have T164 : ∀ (h : HM), MX g ad o h0 s1 h → Ev g mX3_begun d 0 0 (mP g ad o h0 (fun v1 s' => v1 = some (vz (bI (decide ((begM c1 p ns lv).1 = 0)))) ∧ fr s s' [35, 36, 37] [1, 38, 39] ∧ rmAt L1 s' c1 (begM c1 p ns lv))) 164 [some (.ref o), some (vz (li : Int)), some (vz (hrV c1 p1)), none] [vz (bI (decide (lv.length ≤ 10))), .ref o] h := by
        intro h hM
        have hq := hps.right (decide (lv.length ≤ 10))
        refine mx_putB hM dX3_begun_164 gf_X3_231_X3 rfl (bI_o _) (fun h hM => ?_)
        refine ev_aload_n dX3_begun_167 rfl ?_
        refine mx_getI hM dX3_begun_168 gf_X3_231_X3 rfl ?_
        try simp only [uS_1, uA_1, uF_1, uS_2, uA_2a, uF_2a, Nat.reduceEqDiff, reduceIte, Int.reduceToNat, Int.toNat_natCast]
        refine ev_if_neB (tgt := 176) dX3_begun_171 (by decide) (fun c171 => ?_) (fun c171 => ?_)
        · have hl10 : lv.length ≤ 10 := by simpa using c171
          have q1 : psAt L1 (uS (uS s1 36 (bI (decide (lv.length ≤ 10)))) 35 ((p1 + 1 : Nat) : Int)) c1 (p1 + 1) true ns1 lv := (hq.ofb c171).spot (p1 + 1)
          have T198 : ∀ (h : HM), MX g ad o h0 (uS (uS s1 36 (bI (decide (lv.length ≤ 10)))) 35 ((p1 + 1 : Nat) : Int)) h → Ev g mX3_begun d 0 0 (mP g ad o h0 (fun v1 s' => v1 = some (vz (bI (decide ((begM c1 p ns lv).1 = 0)))) ∧ fr s s' [35, 36, 37] [1, 38, 39] ∧ rmAt L1 s' c1 (begM c1 p ns lv))) 198 [some (.ref o), some (vz (li : Int)), some (vz (hrV c1 p1)), none] [vz ((if hrV c1 p1 = 109 then 4 else 5 : Nat) : Int), .ref o] h := by
            intro h hM
            refine ev_iconstZ dX3_begun_198 ?_
            refine ev_iconstZ dX3_begun_199 ?_
            refine mx_callv dX3_begun_200 cv_X3_241_X3 ce_X3_appends hM rfl rfl (k_appends ns1.length (by simp only [uS_1, uA_1, uF_1, uS_2, uA_2a, uF_2a, Nat.reduceEqDiff, reduceIte, Int.reduceToNat, Int.toNat_natCast]; exact hps.2.1.1) (by omega) (by simp only [uS_1, uA_1, uF_1, uS_2, uA_2a, uF_2a, Nat.reduceEqDiff, reduceIte, Int.reduceToNat, Int.toNat_natCast]; rw [hps.2.1.2.1]; omega) (kd := ((if hrV c1 p1 = 109 then 4 else 5 : Nat) : Int)) (v := 0) (ch := 1) hM (d := d - 1) (by omega)) (by omega) (Nat.le_of_ble_eq_true rfl) (fun h hM => ?_)
            refine ev_goto (tgt := 220) dX3_begun_203 (by decide) ?_
            exact T220 _ h (p1 + 1) (ns1 ++ [(if hrV c1 p1 = 109 then 4 else 5, 0, 1, [], [])]) _ hM (fr.F (fr.S (fr.S hfr rfl) rfl) rfl) ((q1).app (if hrV c1 p1 = 109 then 4 else 5) 0 1 (by omega)) (hmr.elim (fun q => hrV_in q (by decide)) (fun q => hrV_in q (by decide))) (by rw [List.length_append]; show ns1.length + 1 ≤ _; omega) (by rw [dsum_one]; show dsum ns1 + 0 ≤ _; omega) (by rw [heq]; unfold untM; rw [if_neg (by omega), if_neg (by omega), if_pos hmr, if_pos hl10])
          refine ev_aload_n dX3_begun_176 rfl ?_
          refine ev_dup dX3_begun_177 rfl ?_
          refine mx_getI hM dX3_begun_178 gf_X3_228_X3 rfl ?_
          try simp only [uS_1, uA_1, uF_1, uS_2, uA_2a, uF_2a, Nat.reduceEqDiff, reduceIte, Int.reduceToNat, Int.toNat_natCast]
          rw [hps.1.1]
          refine ev_iconstZ dX3_begun_181 ?_
          refine ev_iaddZ dX3_begun_182 ?_
          refine ev_to (b := ((p1 + 1 : Nat) : Int)) (by omega) ?_
          refine mx_putI hM dX3_begun_183 gf_X3_228_X3 rfl (fun h hM => ?_)
          refine ev_aload_n dX3_begun_186 rfl ?_
          refine ev_iload_n dX3_begun_187 rfl ?_
          refine ev_bipushZ dX3_begun_188 rfl ?_
          refine ev_icmp_neZ (tgt := 197) dX3_begun_190 (by decide) (by omega) (by omega) (fun c190 => ?_) (fun c190 => ?_)
          · refine ev_iconstZ dX3_begun_197 ?_
            refine ev_to (b := ((if hrV c1 p1 = 109 then 4 else 5 : Nat) : Int)) (by rw [if_neg c190]; rfl) ?_
            exact T198 h hM
          · refine ev_iconstZ dX3_begun_193 ?_
            refine ev_to (b := ((if hrV c1 p1 = 109 then 4 else 5 : Nat) : Int)) (by rw [if_pos c190]; rfl) ?_
            refine ev_goto (tgt := 198) dX3_begun_194 (by decide) ?_
            exact T198 h hM
        · refine ev_iconstZ dX3_begun_174 ?_
          refine ev_zreturn dX3_begun_175 rfl rfl ?_
          refine ⟨_, _, rfl, ⟨?_, fr.S hfr rfl, ?_⟩, hM⟩
          · rw [heq]; unfold untM; rw [if_neg (by omega), if_neg (by omega), if_pos hmr, if_neg (by simp at c171; omega)]; rfl
          · rw [heq]; unfold untM; rw [if_neg (by omega), if_neg (by omega), if_pos hmr, if_neg (by simp at c171; omega)]
            exact hq.ofb c171
      refine ev_aload_n dX3_begun_142 rfl ?_
      refine ev_aload_n dX3_begun_143 rfl ?_
      refine mx_getI hM dX3_begun_144 gf_X3_231_X3 rfl ?_
      try simp only [uS_1, uA_1, uF_1, uS_2, uA_2a, uF_2a, Nat.reduceEqDiff, reduceIte, Int.reduceToNat, Int.toNat_natCast]
      rw [hps.1.2.2.2.1]
      refine ev_if_eqB (tgt := 163) dX3_begun_147 (by decide) (fun c147 => by cases c147) (fun c147 => ?_)
      refine ev_aload_n dX3_begun_150 rfl ?_
      refine mx_getI hM dX3_begun_151 gf_X3_238_X3 rfl ?_
      try simp only [uS_1, uA_1, uF_1, uS_2, uA_2a, uF_2a, Nat.reduceEqDiff, reduceIte, Int.reduceToNat, Int.toNat_natCast]
      rw [hps.2.2.1]
      refine ev_bipushZ dX3_begun_154 rfl ?_
      refine ev_icmp_gtZ (tgt := 163) dX3_begun_156 (by decide) (by omega) (by omega) (fun c156 => ?_) (fun c156 => ?_)
      · refine ev_iconstZ dX3_begun_163 ?_
        refine ev_to (b := bI (decide (lv.length ≤ 10))) (by rw [decide_eq_false (by omega)]; rfl) ?_
        exact T164 h hM
      · refine ev_iconstZ dX3_begun_159 ?_
        refine ev_to (b := bI (decide (lv.length ≤ 10))) (by rw [decide_eq_true (by omega)]; rfl) ?_
        refine ev_goto (tgt := 164) dX3_begun_160 (by decide) ?_
        exact T164 h hM
    refine ev_aload_n dX3_begun_53 rfl ?_
    refine mx_call dX3_begun_54 cv_X3_234_X3 ce_X3_here hM rfl rfl (k_here hM hps.1 (by have := hps.1.2.2.1; omega) (d := d - 1) (by omega)) (by omega) (Nat.le_of_ble_eq_true rfl) (fun h hM => ?_)
    refine ev_istore_n dX3_begun_57 (by decide) rfl ?_
    dsimp only [List.set]
    refine ev_iload_n dX3_begun_58 rfl ?_
    refine ev_bipushZ dX3_begun_59 rfl ?_
    refine ev_icmp_neZ (tgt := 83) dX3_begun_61 (by decide) (by omega) (by omega) (fun c61 => ?_) (fun c61 => ?_)
    · refine ev_iload_n dX3_begun_83 rfl ?_
      refine ev_bipushZ dX3_begun_84 rfl ?_
      refine ev_icmp_neZ (tgt := 130) dX3_begun_86 (by decide) (by omega) (by omega) (fun c86 => ?_) (fun c86 => ?_)
      · refine ev_iload_n dX3_begun_130 rfl ?_
        refine ev_bipushZ dX3_begun_131 rfl ?_
        refine ev_icmp_eqZ (tgt := 142) dX3_begun_133 (by decide) (by omega) (by omega) (fun c133 => ?_) (fun c133 => ?_)
        · exact T142 h hM (Or.inl c133)
        · refine ev_iload_n dX3_begun_136 rfl ?_
          refine ev_bipushZ dX3_begun_137 rfl ?_
          refine ev_icmp_neZ (tgt := 206) dX3_begun_139 (by decide) (by omega) (by omega) (fun c139 => ?_) (fun c139 => ?_)
          · refine ev_iload_n dX3_begun_206 rfl ?_
            refine ev_bipushZ dX3_begun_207 rfl ?_
            refine ev_icmp_eqZ (tgt := 220) dX3_begun_209 (by decide) (by omega) (by omega) (fun c209 => ?_) (fun c209 => ?_)
            · exact T220 _ h p1 ns1 _ hM hfr hps hp1 (by omega) (by omega) (by rw [heq]; unfold untM; rw [if_neg (by omega), if_neg (by omega), if_neg (by omega), if_pos (by omega)])
            · refine ev_aload_n dX3_begun_212 rfl ?_
              refine ev_iconstZ dX3_begun_213 ?_
              refine ev_iconstZ dX3_begun_214 ?_
              refine mx_callP dX3_begun_215 cv_X3_266_X3 ce_X3_phrase hM rfl rfl (k_phrase (c1 := c1) (p := p1) (b1 := true) (ns := ns1) (lv := lv) (kd := 0) (v := 0) hM hps (by omega) (by have := hps.1.2.2.1; omega) hp1 (d := d - 1) (by omega)) (by omega) (Nat.le_of_ble_eq_true rfl) (fun v s' h hP hM => ?_)
              obtain ⟨rfl, f2, q2⟩ := hP
              obtain ⟨e0, hat⟩ := rmAt_phr q2
              refine ev_iconstZ dX3_begun_218 ?_
              refine ev_zreturn dX3_begun_219 rfl rfl ?_
              exact ⟨_, _, rfl, ⟨by rw [heq, show untM c1 p1 ns1 lv = phrM c1 0 0 p1 true ns1 lv by unfold untM; rw [if_neg (by omega), if_neg (by omega), if_neg (by omega), if_neg (by omega)], e0], hfr.trans (f2.more rfl rfl), by rw [heq, show untM c1 p1 ns1 lv = phrM c1 0 0 p1 true ns1 lv by unfold untM; rw [if_neg (by omega), if_neg (by omega), if_neg (by omega), if_neg (by omega)]]; exact hat⟩, hM⟩
          · exact T142 h hM (Or.inr c139)
      · have hlt := hrV_in c86 (by decide)
        refine ev_aload_n dX3_begun_89 rfl ?_
        refine ev_dup dX3_begun_90 rfl ?_
        refine mx_getI hM dX3_begun_91 gf_X3_228_X3 rfl ?_
        try simp only [uS_1, uA_1, uF_1, uS_2, uA_2a, uF_2a, Nat.reduceEqDiff, reduceIte, Int.reduceToNat, Int.toNat_natCast]
        rw [hps.1.1]
        refine ev_iconstZ dX3_begun_94 ?_
        refine ev_iaddZ dX3_begun_95 ?_
        refine ev_to (b := ((p1 + 1 : Nat) : Int)) (by omega) ?_
        refine mx_putI hM dX3_begun_96 gf_X3_228_X3 rfl (fun h hM => ?_)
        refine ev_aload_n dX3_begun_99 rfl ?_
        refine ev_bipushZ dX3_begun_100 rfl ?_
        refine ev_bipushZ dX3_begun_102 rfl ?_
        refine mx_callP dX3_begun_104 cv_X3_247_X3 ce_X3_isHere hM rfl rfl (k_isHere hM (hps.1.spot (p1 + 1)) (lo1 := 49) (hi1 := 57) (by have := hps.1.2.2.1; omega) (by omega) (d := d - 1) (by omega)) (by omega) (Nat.le_of_ble_eq_true rfl) (fun v s' h hP hM => ?_)
        obtain ⟨rfl, f2, r2⟩ := hP
        rw [Bool.true_and] at r2 ⊢
        have q1 := hps.spot (p1 + 1)
        have q2 := q1.frr r2 f2 rfl rfl
        refine ev_if_eqB (tgt := 120) dX3_begun_107 (by decide) (fun c107 => ?_) (fun c107 => ?_)
        · refine ev_iconstZ dX3_begun_120 ?_
          exact T121 _ h (p1 + 1) 0 _ ns1 _ hM ((fr.S hfr rfl).trans (f2.more rfl rfl)) q2 hlt (by omega) (by omega) (by rw [heq, c107]; unfold untM; rw [if_neg (by omega), if_pos c86, if_neg (by simp at c107; omega)])
        · have c107b : 49 ≤ hrV c1 (p1 + 1) ∧ hrV c1 (p1 + 1) ≤ 57 := by simpa using c107
          have hlt2 := hrV_ge (c := c1) (p := p1 + 1) (by omega)
          refine ev_aload_n dX3_begun_110 rfl ?_
          refine mx_callP dX3_begun_111 cv_X3_251_X3 ce_X3_next hM rfl rfl (k_next hM q2.1 hlt2 (d := d - 1) (by omega)) (by omega) (Nat.le_of_ble_eq_true rfl) (fun v s' h hP hM => ?_)
          obtain ⟨rfl, f3, r3⟩ := hP
          have q3 := q2.frr r3 f3 rfl rfl
          refine ev_bipushZ dX3_begun_114 rfl ?_
          refine ev_isubZ dX3_begun_116 ?_
          refine ev_to (b := (((hrV c1 (p1 + 1) - 48).toNat : Nat) : Int)) (by rw [← hrV_get hlt2]; omega) ?_
          refine ev_goto (tgt := 121) dX3_begun_117 (by decide) ?_
          exact T121 _ h (p1 + 2) (hrV c1 (p1 + 1) - 48).toNat _ ns1 _ hM (((fr.S hfr rfl).trans (f2.more rfl rfl)).trans (f3.more rfl rfl)) q3 hlt2 (by omega) (by omega) (by rw [heq, c107]; unfold untM; rw [if_neg (by omega), if_pos c86, if_pos c107b])
    · refine ev_aload_n dX3_begun_64 rfl ?_
      refine ev_dup dX3_begun_65 rfl ?_
      refine mx_getI hM dX3_begun_66 gf_X3_228_X3 rfl ?_
      try simp only [uS_1, uA_1, uF_1, uS_2, uA_2a, uF_2a, Nat.reduceEqDiff, reduceIte, Int.reduceToNat, Int.toNat_natCast]
      rw [hps.1.1]
      refine ev_iconstZ dX3_begun_69 ?_
      refine ev_iaddZ dX3_begun_70 ?_
      refine ev_to (b := ((p1 + 1 : Nat) : Int)) (by omega) ?_
      refine mx_putI hM dX3_begun_71 gf_X3_228_X3 rfl (fun h hM => ?_)
      refine ev_aload_n dX3_begun_74 rfl ?_
      refine ev_iconstZ dX3_begun_75 ?_
      refine ev_iconstZ dX3_begun_76 ?_
      refine ev_iconstZ dX3_begun_77 ?_
      refine mx_callv dX3_begun_78 cv_X3_241_X3 ce_X3_appends hM rfl rfl (k_appends ns1.length (by simp only [uS_1, uA_1, uF_1, uS_2, uA_2a, uF_2a, Nat.reduceEqDiff, reduceIte, Int.reduceToNat, Int.toNat_natCast]; exact hps.2.1.1) (by omega) (by simp only [uS_1, uA_1, uF_1, uS_2, uA_2a, uF_2a, Nat.reduceEqDiff, reduceIte, Int.reduceToNat, Int.toNat_natCast]; rw [hps.2.1.2.1]; omega) (kd := 2) (v := 0) (ch := 0) hM (d := d - 1) (by omega)) (by omega) (Nat.le_of_ble_eq_true rfl) (fun h hM => ?_)
      refine ev_iconstZ dX3_begun_81 ?_
      refine ev_zreturn dX3_begun_82 rfl rfl ?_
      have q1 := hps.spot (p1 + 1)
      refine ⟨_, _, rfl, ⟨?_, fr.F (fr.S hfr rfl) rfl, ?_⟩, hM⟩
      · rw [heq]; unfold untM; rw [if_pos (by omega)]; rfl
      · rw [heq]; unfold untM; rw [if_pos (by omega)]
        exact ((q1).app 2 0 0 (by omega))
  obtain ⟨hrd, hrw, h37, hlv⟩ := hps
  have hlv0 := hlv
  have htop : (topL lv).2 = li := hli.symm
  have hnd : ns[li]? = some (ns.getD li noNd) := by rw [List.getD_eq_getElem?_getD, List.getElem?_eq_getElem hil]; rfl
  obtain ⟨x0, lvt, elv⟩ : ∃ x0 lvt, lv = x0 :: lvt := by cases lv with | nil => simp at hl1 | cons x l => exact ⟨x, l, rfl⟩
  have hll : lv.length = lvt.length + 1 := by rw [elv]; rfl
  have hlv : s.2 38 lvt.length = x0.1 ∧ s.2 39 lvt.length = (li : Int) ∧ lvAt s lvt := by rw [elv] at hlv; obtain ⟨a1, a2, a3⟩ := hlv; refine ⟨a1, ?_, a3⟩; rw [a2, hli, elv]; rfl
  refine ev_aload_n dX3_begun_0 rfl ?_
  refine mx_getA hM dX3_begun_1 gf_X3_80_X3 rfl ?_
  refine ev_aload_n dX3_begun_4 rfl ?_
  refine mx_getI hM dX3_begun_5 gf_X3_238_X3 rfl ?_
  rw [h37]
  refine ev_iconstZ dX3_begun_8 ?_
  refine ev_isubZ dX3_begun_9 ?_
  refine ev_to (b := ((lvt.length : Nat) : Int)) (by omega) ?_
  refine mx_iald hM rfl dX3_begun_10 (by omega) ?_
  try simp only [uS_1, uA_1, uF_1, uS_2, uA_2a, uF_2a, Nat.reduceEqDiff, reduceIte, Int.reduceToNat, Int.toNat_natCast]
  rw [hlv.2.1]
  refine ev_istore_n dX3_begun_11 (by decide) rfl ?_
  dsimp only [List.set]
  refine ev_aload_n dX3_begun_12 rfl ?_
  refine ev_iload_n dX3_begun_13 rfl ?_
  refine ev_iconstZ dX3_begun_14 ?_
  refine ev_aload_n dX3_begun_15 rfl ?_
  refine ev_iload_n dX3_begun_16 rfl ?_
  refine ev_iconstZ dX3_begun_17 ?_
  refine mx_call dX3_begun_18 cv_X3_133_X3 ce_X3_of hM rfl rfl (k_ofN (n := li) (w := 2) (x := ((ns.getD li noNd).2.2.1 : Int)) (d := d - 1) (by omega) hM (by omega) (hrw.nd hnd)) (by omega) (Nat.le_of_ble_eq_true rfl) (fun h hM => ?_)
  refine ev_iconstZ dX3_begun_21 ?_
  refine ev_iaddZ dX3_begun_22 ?_
  refine mx_callv dX3_begun_23 cv_X3_137_X3 ce_X3_put hM rfl rfl (k_put (n := (li : Int)) (w := 2) (v := ((ns.getD li noNd).2.2.1 : Int) + 1) (d := d - 1) (by omega) hM (by omega)) (by omega) (Nat.le_of_ble_eq_true rfl) (fun h hM => ?_)
  rw [show (45 + 6 * (li : Int) + 2).toNat = 45 + 6 * li + 2 by omega] at hM
  have hps1 : psAt L1 (uA s 1 (45 + 6 * li + 2) (((ns.getD li noNd).2.2.1 : Int) + 1)) c1 p true (incB 1 ns li) lv := ⟨hrd.fr (fr.A (fr.refl s [] [1]) rfl) rfl rfl, rw_inc hrw (by omega) hnd, h37, hlv0.same rfl rfl⟩
  have hfr1 : fr s (uA s 1 (45 + 6 * li + 2) (((ns.getD li noNd).2.2.1 : Int) + 1)) [35, 36, 37] [1, 38, 39] := fr.A (fr.refl _ _ _) rfl
  have hv := hrV_lt hps1.1
  refine ev_aload_n dX3_begun_26 rfl ?_
  refine mx_call dX3_begun_27 cv_X3_234_X3 ce_X3_here hM rfl rfl (k_here hM hps1.1 (by omega) (d := d - 1) (by omega)) (by omega) (Nat.le_of_ble_eq_true rfl) (fun h hM => ?_)
  refine ev_bipushZ dX3_begun_30 rfl ?_
  refine ev_bipushZ dX3_begun_32 rfl ?_
  refine ev_callSE dX3_begun_34 cs_X3_121 ce_X3_in rfl rfl (k_in (d := d - 1) (by omega) (by omega)) (by omega) (Nat.le_of_ble_eq_true rfl) ?_
  refine ev_if_eqB (x := isG c1 p) (tgt := 53) dX3_begun_37 (by decide) (fun c37 => ?_) (fun c37 => ?_)
  · exact T53 _ h p (incB 1 ns li) hM hfr1 hps1 hp (by rw [incB_len]; omega) (by rw [dsum_inc hil]; omega) (by unfold begM; rw [if_neg (by rw [c37]; decide), htop])
  · have hlt := isG_in c37
    refine ev_aload_n dX3_begun_40 rfl ?_
    refine ev_iconstZ dX3_begun_41 ?_
    refine ev_aload_n dX3_begun_42 rfl ?_
    refine mx_callP dX3_begun_43 cv_X3_251_X3 ce_X3_next hM rfl rfl (k_next hM hps1.1 hlt (d := d - 1) (by omega)) (by omega) (Nat.le_of_ble_eq_true rfl) (fun v s' h hP hM => ?_)
    obtain ⟨rfl, f2, r2⟩ := hP
    have q2 := hps1.frr r2 f2 rfl rfl
    refine ev_bipushZ dX3_begun_46 rfl ?_
    refine ev_isubZ dX3_begun_48 ?_
    refine ev_to (b := (((hrV c1 p - 48).toNat : Nat) : Int)) (by rw [← hrV_get hlt]; unfold isG at c37; simp at c37; omega) ?_
    refine ev_iconstZ dX3_begun_49 ?_
    refine mx_callv dX3_begun_50 cv_X3_241_X3 ce_X3_appends hM rfl rfl (k_appends ns.length (by rw [q2.2.1.1, incB_len]) (by omega) (by rw [q2.2.1.2.1, dsum_inc hil]; omega) (kd := 3) (v := (((hrV c1 p - 48).toNat : Nat) : Int)) (ch := 1) hM (d := d - 1) (by omega)) (by omega) (Nat.le_of_ble_eq_true rfl) (fun h hM => ?_)
    exact T53 _ h (p + 1) (incB 1 ns li ++ [(3, (hrV c1 p - 48).toNat, 1, [], [])]) hM (fr.F (hfr1.trans (f2.more rfl rfl)) rfl) (q2.app 3 (hrV c1 p - 48).toNat 1 (by rw [incB_len]; omega)) hlt (by rw [List.length_append, incB_len]; show ns.length + 1 ≤ _; omega) (by rw [dsum_one, dsum_inc hil]; show dsum ns + 0 ≤ _; omega) (by unfold begM; rw [if_pos c37, htop])
end R9

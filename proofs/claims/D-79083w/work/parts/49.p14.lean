/-! the reference: write (printed by gen) -/
section P14
variable {g : GB} {M : MI} {d c k : Nat} {Q : RS → HM → Prop} {pc : Nat} {ls : List (Option Value)} {st : List Value} {h : HM} {a b : Int} {ad : Nat → Nat} {o : Nat} {h0 : HM} {s : MSt}
def wOk : List Nd → List Wo → Prop
  | [], _ => True
  | nd :: l, σ => (∀ O τ, σ = O :: τ → O.2.2.1 + O.2.1 < 1100) ∧ if nd.1 ≤ 2 then wOk l (endW (bumpW σ)).2 else σ.length < 80 ∧ wOk l ((nd.1, nd.2.2.1, 0, insB nd.1 (paW σ)) :: bumpW σ)
theorem wOk_tree : ∀ (n : Nat) (l : List Nd), TR n l → (∀ nd ∈ l, nd.2.2.1 < 1100) → ∀ (r : List Nd) (σ : List Wo), σ.length + n ≤ 81 → (∀ O τ, σ = O :: τ → O.2.2.1 + O.2.1 < 1100) → wOk r (endW (bumpW σ)).2 → wOk (l ++ r) σ := by
  intro n
  induction n with
  | zero => intro l h; exact h.elim
  | succ n ih =>
    intro l h hch r σ hlen hroom hr
    obtain ⟨nd, cs, rfl, hc, hk, hcs⟩ := h
    by_cases h2 : nd.1 ≤ 2
    · have e := hk.mp h2
      subst e
      simp only [List.flatten_nil, List.cons_append, List.nil_append, wOk, if_pos h2]
      exact ⟨hroom, hr⟩
    · have hcn : cs ≠ [] := fun q => h2 (hk.mpr q)
      have hn1 : 1 ≤ n := by
        cases cs with
        | nil => exact absurd rfl hcn
        | cons c cs =>
          have := hcs c List.mem_cons_self
          cases n with
          | zero => exact this.elim
          | succ n => omega
      have key : ∀ (cs : List (List Nd)) (O : Wo) (τ : List Wo), (∀ c ∈ cs, TR n c) → (∀ nd ∈ cs.flatten, nd.2.2.1 < 1100) → cs ≠ [] → O.2.1 = cs.length → O.2.2.1 + O.2.1 < 1100 → τ.length + 1 + n ≤ 81 → wOk r (endW τ).2 → wOk (cs.flatten ++ r) (O :: τ) := by
        intro cs
        induction cs with
        | nil => intro O τ _ _ q; exact absurd rfl q
        | cons c cs ihc =>
          intro O τ hcs hch _ hl hrm hlen hr
          rw [List.flatten_cons, List.append_assoc]
          rw [List.length_cons] at hl
          refine ih c (hcs c List.mem_cons_self) (fun nd h => hch nd (by rw [List.flatten_cons]; exact List.mem_append_left _ h)) _ (O :: τ) (by rw [List.length_cons]; omega) (fun O' τ' e => by cases e; exact hrm) ?_
          by_cases hcn : cs = []
          · subst hcn
            have e1 : endW (bumpW (O :: τ)) = (tailT O.1 ++ rp O.2.2.2 ++ (endW τ).1, (endW τ).2) := by
              show (if 0 < O.2.1 - 1 then _ else _) = _
              rw [if_neg (by simp at hl; omega)]
            rw [e1]
            exact hr
          · have hp : 0 < cs.length := List.length_pos_iff.mpr hcn
            have e1 : endW (bumpW (O :: τ)) = ([], (O.1, O.2.1 - 1, O.2.2.1 + 1, O.2.2.2) :: τ) := by
              show (if 0 < O.2.1 - 1 then _ else _) = _
              rw [if_pos (by omega)]
            rw [e1]
            exact ihc _ τ (fun c' h' => hcs c' (List.mem_cons_of_mem _ h')) (fun nd h => hch nd (by rw [List.flatten_cons]; exact List.mem_append_right _ h)) hcn (by show O.2.1 - 1 = _; omega) (by show O.2.2.1 + 1 + (O.2.1 - 1) < 1100; omega) hlen hr
      show wOk (nd :: (cs.flatten ++ r)) σ
      unfold wOk
      rw [if_neg h2]
      exact ⟨hroom, by omega, key cs _ _ hcs (fun nd h => hch nd (List.mem_cons_of_mem _ h)) hcn hc (by show 0 + nd.2.2.1 < 1100; have := hch nd List.mem_cons_self; omega) (by rw [bumpW_len]; omega) hr⟩
theorem TR_ch : ∀ (n : Nat) (l : List Nd), TR n l → ∀ nd ∈ l, nd.2.2.1 ≤ l.length := by
  intro n
  induction n with
  | zero => intro l h; exact h.elim
  | succ n ih =>
    intro l h nd' hm
    obtain ⟨nd, cs, rfl, hc, hk, hcs⟩ := h
    have key : ∀ (cs : List (List Nd)), (∀ c ∈ cs, TR n c) → cs.length ≤ cs.flatten.length ∧ ∀ c ∈ cs, c.length ≤ cs.flatten.length := by
      intro cs
      induction cs with
      | nil => intro _; exact ⟨Nat.le_refl _, fun c h => by simp at h⟩
      | cons c cs ihc =>
        intro hcs
        obtain ⟨a, b⟩ := ihc (fun c' h' => hcs c' (List.mem_cons_of_mem _ h'))
        have := List.length_pos_iff.mpr (hcs c List.mem_cons_self).ne
        rw [List.flatten_cons, List.length_append, List.length_cons]
        refine ⟨by omega, fun c' h' => ?_⟩
        rcases List.mem_cons.mp h' with rfl | h'
        · omega
        · have := b c' h'; omega
    obtain ⟨a, b⟩ := key cs hcs
    rw [List.length_cons]
    rcases List.mem_cons.mp hm with rfl | hm
    · omega
    · obtain ⟨c, h1, h2⟩ := List.mem_flatten.mp hm
      have := ih c (hcs c h1) nd' h2
      have := b c h1
      omega
theorem wOk_piece {l : List Nd} (h : TR 81 l) (hl : l.length ≤ 1000) : wOk l [] := by
  have q := wOk_tree 81 l h (fun nd hn => by have := TR_ch 81 l h nd hn; omega) [] [] (by decide) (fun O τ e => by cases e) trivial
  rwa [List.append_nil] at q
def opWrite (σ : Sp) : Rs := withP σ 1 (fun l => (0, ((txt l 9).length : Nat), (σ.1, σ.2.1, σ.2.2.1, (σ.2.2.2.1.1, txt l 9), σ.2.2.2.2)))
set_option maxRecDepth 100000 in
set_option maxHeartbeats 4000000 in
theorem k_write  {σ : Sp} (hM : MX g ad o h0 s h) (hT : TI s σ) (hO : spOk σ)  (hd : 10 ≤ d) : Kc g mX3_write d 0 0 [.ref o] h (mP g ad o h0 (mRs (opWrite σ))) := by
  refine Kc.of (ls := [some (.ref o), none]) (by decide +kernel) (Nat.le_of_ble_eq_true rfl) rfl ?_
  cases hp : σ.1.2.2.2 with
  | none =>
    refine ev_aload_n dX3_write_0 rfl ?_
    refine ev_iconstZ dX3_write_1 ?_
    refine mx_callP dX3_write_2 cv_X3_305_X3 ce_X3_hasNoPiece hM rfl rfl (k_hasNo0 (code := 1) hM hT hO hp (d := d - 1) (by omega)) (by omega) (Nat.le_of_ble_eq_true rfl) (fun v s' h hP hM => ?_)
    obtain ⟨rfl, hP⟩ := hP
    refine ev_if_eqZ (tgt := 10) dX3_write_5 (by decide) (by decide) (fun c => absurd c (by decide)) (fun _ => ?_)
    refine ev_iconstZ dX3_write_8 ?_
    refine ev_ireturn dX3_write_9 rfl ?_
    refine ⟨_, _, rfl, ?_, hM⟩
    unfold opWrite
    rw [withP_none hp]
    exact ⟨hP.1, hP.2, rfl⟩
  | some l =>
    refine ev_aload_n dX3_write_0 rfl ?_
    refine ev_iconstZ dX3_write_1 ?_
    refine mx_callP dX3_write_2 cv_X3_305_X3 ce_X3_hasNoPiece hM rfl rfl (k_hasNo1 (code := 1) hM hT hO hp (d := d - 1) (by omega)) (by omega) (Nat.le_of_ble_eq_true rfl) (fun v s' h hP hM => ?_)
    obtain ⟨rfl, hz, hT1, g14, hk1, hf1⟩ := hP
    obtain ⟨k15, kpt, kok⟩ := hk1.ok
    have k17 := kpt.1
    have k18 := kpt.2.1
    have k19 := kpt.2.2.1
    have k20 := kpt.2.2.2.1
    obtain ⟨b1, b2, b3⟩ := dn_some hT1.1 hp
    obtain ⟨hok, hsm⟩ := hO.1.2.2.2.2.2.2 l hp
    have hdb : (mean l).1.2.2.1 ≤ 81 := kok.2.2.1
    have hsb := kok.1
    have hub := kok.2.1
    have hcb := kok.2.2.2.1
    have hlm := b2.2.1
    have hbud : budT l ≤ 12000 := by
      obtain ⟨m, m1, m2, -⟩ := bud_le b2 b3 hsb l.length (Nat.le_refl _)
      rw [List.take_length] at m1
      have := b2.2.1
      omega
    have key : ∀ (r : List Nd) (i : Nat) (τ : List Wo) (w : List Nat) (s1 : MSt) (h : HM), MX g ad o h0 s1 h → fr s' s1 [13, 23] [12, 24, 26, 27, 32] → i + r.length = l.length → (∀ (j : Nat) (nd : Nd), r[j]? = some nd → ndAt (s'.2 1) (i + j) nd) → (∀ nd ∈ r, ndOk nd) → s1.1 23 = τ.length → wkAt s1 τ → τ.length ≤ 80 → ouAt s1 w → wOk r τ → w.length + 2 * τ.length + budT r ≤ 12000 → w ++ (runW r τ).1 = txt l 9 → Ev g mX3_write d 0 0 (mP g ad o h0 (mRs (opWrite σ))) 22 [some (.ref o), some (vz (i : Int))] [] h := by
      intro r
      induction r with
      | nil =>
        intro i τ w s1 h hM hf hi hA hOk h23 hw hl80 hu hwo hB hE
        refine ev_iload_n dX3_write_22 rfl ?_
        refine ev_aload_n dX3_write_23 rfl ?_
        refine mx_getA hM dX3_write_24 gf_X3_7_X3 rfl ?_
        refine ev_bipushZ dX3_write_27 rfl ?_
        refine mx_iald hM rfl dX3_write_29 (by omega) ?_
        try simp only [uS_1, uA_1, uF_1, uS_2, uA_2a, uF_2a, Nat.reduceEqDiff, reduceIte, Int.reduceToNat, Int.toNat_natCast]
        rw [hf.2 1 (by decide), b2.1]
        refine ev_icmp_geZ (tgt := 57) dX3_write_30 (by decide) (by omega) (by omega) (fun _ => ?_) (fun c => absurd (by simp only [List.length_nil] at hi; omega) c)
        refine ev_aload_n dX3_write_57 rfl ?_
        refine mx_getI hM dX3_write_58 gf_X3_288_X3 rfl ?_
        try simp only [uS_1, uA_1, uF_1, uS_2, uA_2a, uF_2a, Nat.reduceEqDiff, reduceIte, Int.reduceToNat, Int.toNat_natCast]
        rw [hu.1]
        refine ev_ireturn dX3_write_61 rfl ?_
        refine ⟨_, _, rfl, ?_, hM⟩
        unfold opWrite
        rw [withP_some hp]
        have hE' : w = txt l 9 := by rw [← hE]; simp [runW]
        subst hE'
        have hT2 := hT1
        obtain ⟨t1, t2, t3, t4, t5, t6, t7, t8⟩ := hT2
        have fk : ∀ j, j ∈ [0, 5, 6, 7, 8, 10, 11, 14] → s1.1 j = s'.1 j := fun j hj => hf.1 j (by simp at hj ⊢; omega)
        have fj : ∀ j, j ∈ [1, 2, 4, 9] → s1.2 j = s'.2 j := fun j hj => hf.2 j (by simp at hj ⊢; omega)
        refine ⟨(fk 0 (by simp)).trans hz, ⟨by rw [fj 1 (by simp)]; exact t1, by rw [fk 5 (by simp), fj 4 (by simp)]; exact t2, by rw [fk 6 (by simp), fj 2 (by simp)]; exact t3, by rw [fk 10 (by simp), fj 9 (by simp)]; exact t4, ⟨hu.1, by show (txt l 9).length ≤ 12000; omega, hu.2⟩, by rw [fk 7 (by simp), fk 8 (by simp), fk 11 (by simp)]; exact t6, by rw [fk 14 (by simp)]; exact t7, fun e l' hl' => ?_⟩, rfl⟩
        rw [fk 14 (by simp)] at e
        exact (t8 e l' hl').frr hf rfl rfl
      | cons nd r ih =>
        intro i τ w s1 h hM hf hi hA hOk h23 hw hl80 hu hwo hB hE
        have hO0 := hOk nd List.mem_cons_self
        have hi2 : i + 1 ≤ l.length := by simp only [List.length_cons] at hi; omega
        refine ev_iload_n dX3_write_22 rfl ?_
        refine ev_aload_n dX3_write_23 rfl ?_
        refine mx_getA hM dX3_write_24 gf_X3_7_X3 rfl ?_
        refine ev_bipushZ dX3_write_27 rfl ?_
        refine mx_iald hM rfl dX3_write_29 (by omega) ?_
        try simp only [uS_1, uA_1, uF_1, uS_2, uA_2a, uF_2a, Nat.reduceEqDiff, reduceIte, Int.reduceToNat, Int.toNat_natCast]
        rw [hf.2 1 (by decide), b2.1]
        refine ev_icmp_geZ (tgt := 57) dX3_write_30 (by decide) (by omega) (by omega) (fun c => absurd c (by simp only [List.length_cons] at hi; omega)) (fun _ => ?_)
        refine ev_aload_n dX3_write_33 rfl ?_
        refine ev_iload_n dX3_write_34 rfl ?_
        refine mx_callP dX3_write_35 cv_X3_308_X3 ce_X3_writesNode hM rfl rfl (k_writesNode (n := i) (nd := nd) (u := w) (σ := τ) (d := d - 1) hM (by omega) (by rw [hf.2 1 (by decide)]; exact hA 0 nd rfl) hO0 hu h23 hw (fun q => by have := hwo.2; rw [if_neg q] at this; exact this.1) hl80 hwo.1 (by have hB' := hB; simp only [budT] at hB'; have q1 := sepW_le τ; have q2 := lp_le (insB nd.1 (paW τ)); have q3 := headT_le nd; simp only [List.length_append]; by_cases q : nd.1 ≤ 2; (rw [if_pos q]; have := leafT_le nd q; omega); (rw [if_neg q]; simp only [List.length_append]; omega)) (by omega)) (by omega) (Nat.le_of_ble_eq_true rfl) (fun v s2 h hP hM => ?_)
        obtain ⟨rfl, f2, hu2, g23, hw2⟩ := hP
        have hf2 := hf.trans f2
        refine ev_aload_n dX3_write_38 rfl ?_
        refine ev_iload_n dX3_write_39 rfl ?_
        refine mx_call dX3_write_40 cv_X3_162_X3 ce_X3_kind hM rfl rfl (k_kindN (n := i) (x := (nd.1 : Int)) (d := d - 1) (by omega) hM (by omega) (by rw [hf2.2 1 (by decide)]; exact (hA 0 nd rfl).1)) (by omega) (Nat.le_of_ble_eq_true rfl) (fun h hM => ?_)
        refine ev_iconstZ dX3_write_43 ?_
        refine ev_icmp_gtZ (tgt := 51) dX3_write_44 (by decide) (by have := hO0.1; omega) (by omega) (fun c44 => ?_) (fun c44 => ?_)
        · have hk2 : ¬ nd.1 ≤ 2 := by omega
          rw [if_neg hk2] at hu2 g23 hw2
          have hwo2 := hwo.2
          rw [if_neg hk2] at hwo2
          rw [runW, if_neg hk2] at hE
          refine ev_iincZ dX3_write_51 rfl (by decide) rfl ?_
          dsimp only [List.set]
          refine ev_goto (tgt := 22) dX3_write_54 (by decide) ?_
          first
            | refine ih (i + 1) (endW (bumpW τ)).2 (w ++ sepW τ ++ leafT nd ++ (endW (bumpW τ)).1) s3 h hM (hf2.trans (f3.more rfl rfl)) (by simp only [List.length_cons] at hi; omega) (fun j nd' hj => by rw [show i + 1 + j = i + (j + 1) by omega]; exact hA (j + 1) nd' hj) (fun x hx => hOk x (List.mem_cons_of_mem _ hx)) k23 hw3 (by omega) hu3 hwo2 (by have hB' := hB; simp only [budT] at hB'; have q1 := sepW_le τ; simp only [List.length_append]; omega) (by rw [← hE]; simp only [List.append_assoc])
            | refine ih (i + 1) ((nd.1, nd.2.2.1, 0, insB nd.1 (paW τ)) :: bumpW τ) (w ++ sepW τ ++ (lp (insB nd.1 (paW τ)) ++ headT nd)) s2 h hM hf2 (by simp only [List.length_cons] at hi; omega) (fun j nd' hj => by rw [show i + 1 + j = i + (j + 1) by omega]; exact hA (j + 1) nd' hj) (fun x hx => hOk x (List.mem_cons_of_mem _ hx)) g23 hw2 (by have := hwo2.1; simp only [List.length_cons, bumpW_len]; omega) hu2 hwo2.2 (by have hB' := hB; simp only [budT] at hB'; have q1 := sepW_le τ; have q2 := lp_le (insB nd.1 (paW τ)); have q3 := headT_le nd; simp only [List.length_append, List.length_cons, bumpW_len]; rw [if_neg (by omega)] at hB'; omega) (by rw [← hE]; simp only [List.append_assoc])
        · have hk2 : nd.1 ≤ 2 := by omega
          rw [if_pos hk2] at hu2 g23 hw2
          have hwo2 := hwo.2
          rw [if_pos hk2] at hwo2
          rw [runW, if_pos hk2] at hE
          have hq1 := leafT_le nd hk2
          have hq2 := endW_le (bumpW τ)
          rw [bumpW_len] at hq2 g23
          refine ev_aload_n dX3_write_47 rfl ?_
          refine mx_callP dX3_write_48 cv_X3_311_X3 ce_X3_writesEnds hM rfl rfl (k_writesEnds (σ := bumpW τ) (u := w ++ sepW τ ++ leafT nd) (d := d - 1) hM (by rw [g23, bumpW_len]) hw2 (by rw [bumpW_len]; exact hl80) hu2 (by have hB' := hB; simp only [budT] at hB'; have q1 := sepW_le τ; simp only [List.length_append]; omega) (by omega)) (by omega) (Nat.le_of_ble_eq_true rfl) (fun v s3 h hP hM => ?_)
          obtain ⟨rfl, f3, hu3, k23, hw3⟩ := hP
          refine ev_iincZ dX3_write_51 rfl (by decide) rfl ?_
          dsimp only [List.set]
          refine ev_goto (tgt := 22) dX3_write_54 (by decide) ?_
          first
            | refine ih (i + 1) (endW (bumpW τ)).2 (w ++ sepW τ ++ leafT nd ++ (endW (bumpW τ)).1) s3 h hM (hf2.trans (f3.more rfl rfl)) (by simp only [List.length_cons] at hi; omega) (fun j nd' hj => by rw [show i + 1 + j = i + (j + 1) by omega]; exact hA (j + 1) nd' hj) (fun x hx => hOk x (List.mem_cons_of_mem _ hx)) k23 hw3 (by omega) hu3 hwo2 (by have hB' := hB; simp only [budT] at hB'; have q1 := sepW_le τ; simp only [List.length_append]; omega) (by rw [← hE]; simp only [List.append_assoc])
            | refine ih (i + 1) ((nd.1, nd.2.2.1, 0, insB nd.1 (paW τ)) :: bumpW τ) (w ++ sepW τ ++ (lp (insB nd.1 (paW τ)) ++ headT nd)) s2 h hM hf2 (by simp only [List.length_cons] at hi; omega) (fun j nd' hj => by rw [show i + 1 + j = i + (j + 1) by omega]; exact hA (j + 1) nd' hj) (fun x hx => hOk x (List.mem_cons_of_mem _ hx)) g23 hw2 (by have := hwo2.1; simp only [List.length_cons, bumpW_len]; omega) hu2 hwo2.2 (by have hB' := hB; simp only [budT] at hB'; have q1 := sepW_le τ; have q2 := lp_le (insB nd.1 (paW τ)); have q3 := headT_le nd; simp only [List.length_append, List.length_cons, bumpW_len]; rw [if_neg (by omega)] at hB'; omega) (by rw [← hE]; simp only [List.append_assoc])
    refine ev_if_eqZ (tgt := 10) dX3_write_5 (by decide) (by decide) (fun _ => ?_) (fun c => absurd c (by decide))
    refine ev_aload_n dX3_write_10 rfl ?_
    refine ev_iconstZ dX3_write_11 ?_
    refine mx_putI hM dX3_write_12 gf_X3_288_X3 rfl (fun h hM => ?_)
    refine ev_aload_n dX3_write_15 rfl ?_
    refine ev_iconstZ dX3_write_16 ?_
    refine mx_putI hM dX3_write_17 gf_X3_174_X3 rfl (fun h hM => ?_)
    refine ev_iconstZ dX3_write_20 ?_
    refine ev_istore_n dX3_write_21 (by decide) rfl ?_
    dsimp only [List.set]
    exact Ev.forget (key l 0 [] [] _ h hM (fr.S (fr.S (fr.refl _ _ _) rfl) rfl) (by omega) (fun j nd hj => by rw [Nat.zero_add]; exact b2.2.2 j nd hj) (fun nd hn => (hok.2 nd hn).1) rfl trivial (by decide) ⟨rfl, fun i x hx => by simp at hx⟩ (wOk_piece hok.1 hlm) (by simpa using hbud) (by rw [runW_piece hok.1]; rfl)) (by repeat' first | exact rfl | exact trivial | exact vz_eq (by omega) | refine And.intro ?_ ?_)
end P14

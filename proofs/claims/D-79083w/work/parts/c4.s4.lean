/-! THE COMPONENT: leaves(), its iterator; changedBy (printed by gen) -/
section S4S
variable {g : GB} {M : MI} {d c k : Nat} {h : HM}
def leafL (l : List Nd) : List Nd := l.filter (fun nd => decide (nd.1 ≤ 2))
theorem leafL_app (a b : List Nd) : leafL (a ++ b) = leafL a ++ leafL b := List.filter_append a b
def pot (l : List Nd) : Nat := (l.map (fun nd => nd.2.2.1 - 1)).sum
theorem pot_app (a b : List Nd) : pot (a ++ b) = pot a + pot b := by unfold pot; rw [List.map_append, List.sum_append]
/-- the trees that an iterator has yet to go through -/
def FOk (I : HM) (as : List Nat) (ls : List (List Nd)) : Prop := as.length = ls.length ∧ ∀ (i q : Nat) (c : List Nd), as[i]? = some q → ls[i]? = some c → NodeAt I 81 q c ∧ c.length < 1000000
theorem FOk.app {I : HM} {as bs : List Nat} {ls ms : List (List Nd)} (H : FOk I as ls) (G : FOk I bs ms) : FOk I (as ++ bs) (ls ++ ms) := by
  refine ⟨by rw [List.length_append, List.length_append, H.1, G.1], fun i q c hq hc => ?_⟩
  by_cases e : i < as.length
  · rw [List.getElem?_append_left e] at hq
    rw [List.getElem?_append_left (by have := H.1; omega)] at hc
    exact H.2 i q c hq hc
  · rw [List.getElem?_append_right (by omega)] at hq
    rw [List.getElem?_append_right (by have := H.1; omega), ← H.1] at hc
    exact G.2 _ q c hq hc
theorem FOk.drop {I : HM} {as : List Nat} {ls : List (List Nd)} (H : FOk I as ls) (j : Nat) : FOk I (as.drop j) (ls.drop j) := by
  refine ⟨by rw [List.length_drop, List.length_drop, H.1], fun i q c hq hc => ?_⟩
  rw [List.getElem?_drop] at hq hc
  exact H.2 _ q c hq hc
theorem FOk.sub {I J : HM} {as : List Nat} {ls : List (List Nd)} (H : FOk I as ls) (hS : Sub I J) : FOk J as ls := ⟨H.1, fun i q c hq hc => ⟨(H.2 i q c hq hc).1.sub hS, (H.2 i q c hq hc).2⟩⟩
/-- the iterator's list -/
def WLh (g : GB) (I hb : HM) (S0 : List Nat) (h : HM) (ll : Nat) (mc : Int) (L : List (Nat × Nat)) (ls : List (List Nd)) : Prop :=
  LLh g h ll mc L ∧ Sub I h ∧ (∀ x ∈ L.map Prod.fst, I x = none ∧ (x ∈ S0 ∨ hb x = none)) ∧ FOk I (L.map Prod.snd) ls ∧ I ll = none ∧ ll ∈ S0 ∧ Fr g hb h S0
theorem WLh.mem {I hb : HM} {S0 : List Nat} {ll : Nat} {mc : Int} {L : List (Nat × Nat)} {ls : List (List Nd)} (W : WLh g I hb S0 h ll mc L ls) : ∀ x ∈ ll :: L.map Prod.fst, I x = none ∧ (x ∈ S0 ∨ hb x = none) := fun x hx => by
  rcases List.mem_cons.mp hx with e | e
  · rw [e]; exact ⟨W.2.2.2.2.1, Or.inl W.2.2.2.2.2.1⟩
  · exact W.2.2.1 x e
/-- behind a change of the list -/
theorem WLh.next {I hb h' : HM} {S0 : List Nat} {ll : Nat} {mc mc' : Int} {L L' : List (Nat × Nat)} {ls ls' : List (List Nd)} (W : WLh g I hb S0 h ll mc L ls) (f : Fr g h h' (ll :: L.map Prod.fst)) (H : LLh g h' ll mc' L') (hL : ∀ x ∈ L'.map Prod.fst, x ∈ L.map Prod.fst ∨ h x = none) (hF : FOk I (L'.map Prod.snd) ls') : WLh g I hb S0 h' ll mc' L' ls' :=
  ⟨H, W.2.1.fr f (fun x hx => Or.inl (W.mem x hx).1), fun x hx => by
    rcases hL x hx with e | e
    · exact W.2.2.1 x e
    · exact ⟨W.2.1.none e, Or.inr (W.2.2.2.2.2.2.fresh e)⟩, hF, W.2.2.2.2.1, W.2.2.2.2.2.1, W.2.2.2.2.2.2.call f (fun x hx => by
    rcases (W.mem x hx).2 with e | e
    · exact Or.inl e
    · exact Or.inr (Or.inl e))⟩
abbrev QN (g : GB) (I hb : HM) (S0 : List Nat) (ll : Nat) (nd : Nd) (ls : List (List Nd)) : RS → HM → Prop := rR (fun v h' => ∃ (r : Nat) (L' : List (Nat × Nat)) (mc' : Int), v = some (.ref r) ∧ (∃ as, ndC I r nd as) ∧ WLh g I hb S0 h' ll mc' L' ls)
set_option maxRecDepth 100000 in
set_option maxHeartbeats 4000000 in
theorem nx11 (hG : GKx g) {I hb : HM} {S0 : List Nat} {it ll th : Nat} (hit : I it = some (.inr (14, [.ref ll, .ref th]))) : ∀ (n p : Nat) (l : List Nd), NodeAt I n p l → n ≤ 81 → l.length < 1000000 → ∃ (nd : Nd) (ls0 : List (List Nd)) (k1 : Nat), nd.1 ≤ 2 ∧ leafL l = nd :: leafL ls0.flatten ∧ pot l = k1 + pot ls0.flatten ∧ nd ∈ l ∧ ∀ (h : HM) (L : List (Nat × Nat)) (mc : Int) (ls : List (List Nd)) (c k d : Nat), WLh g I hb S0 h ll mc L ls → k1 ≤ c → 3 * k1 ≤ k → 6 ≤ d → ∀ z : Option Value, Ev g mX18_next_2 d c k (QN g I hb S0 ll nd (ls0 ++ ls)) 11 [some (.ref it), some (.ref p), z] [] h := by
  intro n
  induction n with
  | zero => intro p l H; exact H.elim
  | succ n ih =>
    intro p l H hn hl
    obtain ⟨nd0, cs, as, rfl, e2, e3, e4, e5, e6⟩ := H
    have hal : as.length < 1000000 := ndC.len (a := p) (nd := nd0) e4 e6 hl
    have hlc : ∀ c ∈ cs, c.length < 1000000 := fun c hc => by have := flat_mem hc; simp only [List.length_cons] at hl; omega
    cases hcs9 : cs with
    | nil =>
      have hk2 := e3.mpr hcs9
      have ha0 : as.length = 0 := by rw [e4, hcs9]; rfl
      have hm : nd0.2.2.1 = 0 := by rw [e2, hcs9]; rfl
      refine ⟨nd0, [], 0, hk2, ?_, ?_, List.mem_cons_self, fun h L mc ls c k d W hc hk hd z => ?_⟩
      · show leafL [nd0] = [nd0]
        unfold leafL
        rw [List.filter_cons_of_pos (by simpa using hk2)]; rfl
      · show pot [nd0] = 0 + pot []
        unfold pot
        rw [List.map_cons, hm]; rfl
      refine ev_aload_n dX18_next_2_11 rfl ?_
      refine ev_callNE dX18_next_2_12 (nv_X18_29 hG) fe_partCount ((e5.sub W.2.1).cls) rfl rfl (n_pc (e5.sub W.2.1) (d := 1) (Nat.le_refl _)) (by omega) (Nat.le_of_ble_eq_true rfl) ?_
      refine ev_if_leZ (tgt := 56) dX18_next_2_15 (by decide) (by omega) (fun c15 => ?_) (fun c15 => by omega)
      refine ev_aload_n dX18_next_2_56 rfl ?_
      refine ev_areturn dX18_next_2_57 rfl (Or.inl ⟨_, rfl⟩) (Or.inr ⟨_, rfl⟩) ?_
      exact ⟨_, rfl, p, L, mc, rfl, ⟨as, e5⟩, W⟩
    | cons c0 rest =>
      have hne : cs ≠ [] := by rw [hcs9]; exact fun q => by cases q
      have hk3 : ¬ nd0.1 ≤ 2 := fun q => hne (e3.mp q)
      have ha1 : 1 ≤ as.length := by rw [e4, hcs9]; simp
      obtain ⟨q0, hq0⟩ : ∃ q0, as[0]? = some q0 := ⟨_, List.getElem?_eq_getElem (by omega)⟩
      have hN0 := e6 0 q0 c0 (by rw [hcs9]; rfl) hq0
      obtain ⟨nd, ls1, k1, g1, g2, g3, g4, hI3⟩ := ih q0 c0 hN0 (by omega) (hlc c0 (by rw [hcs9]; exact List.mem_cons_self))
      have hm : nd0.2.2.1 - 1 = rest.length := by rw [e2, hcs9]; rfl
      have hr : as.length - 1 = rest.length := by rw [e4, hcs9]; rfl
      refine ⟨nd, ls1 ++ rest, rest.length + k1, g1, ?_, ?_, List.mem_cons_of_mem _ (by rw [List.flatten_cons]; exact List.mem_append_left _ g4), fun h L mc ls c k d W hc hk hd z => ?_⟩
      · rw [List.flatten_cons, List.flatten_append, leafL_app]
        show leafL ([nd0] ++ (c0 ++ rest.flatten)) = _
        rw [leafL_app, leafL_app, g2]
        have : leafL [nd0] = [] := by unfold leafL; rw [List.filter_cons_of_neg (by simpa using hk3)]; rfl
        rw [this]; rfl
      · rw [List.flatten_cons, List.flatten_append, pot_app]
        show pot ([nd0] ++ (c0 ++ rest.flatten)) = _
        rw [pot_app, pot_app, g3]
        have : pot [nd0] = rest.length := by unfold pot; rw [List.map_cons, hm]; rfl
        rw [this]; omega
      rw [List.append_assoc]
      refine ev_aload_n dX18_next_2_11 rfl ?_
      refine ev_callNE dX18_next_2_12 (nv_X18_29 hG) fe_partCount ((e5.sub W.2.1).cls) rfl rfl (n_pc (e5.sub W.2.1) (d := 1) (Nat.le_refl _)) (by omega) (Nat.le_of_ble_eq_true rfl) ?_
      refine ev_if_leZ (tgt := 56) dX18_next_2_15 (by decide) (by omega) (fun c15 => by omega) (fun c15 => ?_)
      refine ev_aload_n dX18_next_2_18 rfl ?_
      refine ev_callNE dX18_next_2_19 (nv_X18_29 hG) fe_partCount ((e5.sub W.2.1).cls) rfl rfl (n_pc (e5.sub W.2.1) (d := 1) (Nat.le_refl _)) (by omega) (Nat.le_of_ble_eq_true rfl) ?_
      refine ev_iconstZ dX18_next_2_22 ?_
      refine ev_isubZ dX18_next_2_23 ?_
      refine ev_istore_n dX18_next_2_24 (by decide) rfl ?_
      dsimp only [List.set]
      refine ev_forB (st := []) (as.length - 1) (fun j => as.length - 1 - j + k1) (fun j => 3 * (as.length - 1 - j + k1)) (fun j h1 => ∃ (L1 : List (Nat × Nat)) (mc1 : Int), WLh g I hb S0 h1 ll mc1 L1 (cs.drop (as.length - j) ++ ls)) (fun j => [some (.ref it), some (.ref p), some (vz (((as.length - 1 - j : Nat)) : Int))]) 0 (Nat.zero_le _) ⟨L, mc, by rw [Nat.sub_zero, e4, List.drop_length]; exact W⟩ (by omega) (by omega) ⟨rfl, rfl, vz_eq (by omega), trivial⟩ (fun j h1 _ hj hP hN => ?_) (fun h1 hP => ?_)
      · obtain ⟨L1, mc1, W1⟩ := hP
        have hit1 := W1.2.1 _ _ hit
        obtain ⟨q, hq⟩ : ∃ q, as[as.length - 1 - j]? = some q := ⟨_, List.getElem?_eq_getElem (by omega)⟩
        obtain ⟨cc, hcc⟩ : ∃ cc, cs[as.length - 1 - j]? = some cc := ⟨_, List.getElem?_eq_getElem (by omega)⟩
        have hkq := ((e6 _ q cc hcc hq).sub W1.2.1).cls
        refine ev_iload_n dX18_next_2_25 rfl ?_
        refine ev_if_leZ (tgt := 47) dX18_next_2_26 (by decide) (by omega) (fun c26 => by omega) (fun c26 => ?_)
        refine ev_aload_n dX18_next_2_29 rfl ?_
        refine ev_getf dX18_next_2_30 gf_X18_7_X18 hit1 rfl ?_
        refine ev_aload_n dX18_next_2_33 rfl ?_
        refine ev_iload_n dX18_next_2_34 rfl ?_
        refine ev_callNE dX18_next_2_35 (nv_X18_33 hG) fe_part ((e5.sub W1.2.1).cls) rfl rfl (n_part (e5.sub W1.2.1) (d := 3) hq hkq hal (Nat.le_refl _)) (by omega) (Nat.le_of_ble_eq_true rfl) ?_
        obtain ⟨q9, hq9⟩ : ∃ q9, q9 = q := ⟨_, rfl⟩
        refine ev_callVR dX18_next_2_38 cv_X18_37_J3 ce_J3_addFirst W1.1.1 rfl rfl rfl (ll_addFirst W1.1) (by omega) (by omega) (by omega) (Nat.le_of_ble_eq_true rfl) (fun v9 h3 P9 => ?_)
        obtain ⟨rfl, x9, z9, B9, H9, F9⟩ := P9
        refine ev_iincZ dX18_next_2_41 rfl (by decide) rfl ?_
        dsimp only [List.set]
        refine ev_goto (tgt := 25) dX18_next_2_44 (by decide) ?_
        refine hN _ _ _ _ (by omega) (by omega) ⟨rfl, rfl, vz_eq (by omega), trivial⟩ ⟨_, _, W1.next F9 H9 (fun x hx => ?_) ?_⟩
        · rcases List.mem_cons.mp hx with e | e
          · rw [e]; exact Or.inr z9
          · exact Or.inl e
        · rw [show as.length - (j + 1) = as.length - 1 - j by omega, drop_cons' hcc, show as.length - 1 - j + 1 = as.length - j by omega]
          refine FOk.app (as := [q]) (ls := [cc]) ⟨rfl, fun i q2 c2 h1 h2 => ?_⟩ W1.2.2.2.1
          cases i with
          | zero => cases h1; cases h2; exact ⟨(e6 _ q cc hcc hq).mono (by omega), hlc cc (List.mem_of_getElem? hcc)⟩
          | succ i => simp at h1
      · obtain ⟨L1, mc1, W1⟩ := hP
        have hit1 := W1.2.1 _ _ hit
        rw [show as.length - (as.length - 1) = 1 by omega, hcs9, List.drop_one, List.tail_cons] at W1
        have hkq0 := (hN0.sub W1.2.1).cls
        refine ev_iload_n dX18_next_2_25 rfl ?_
        refine ev_if_leZ (tgt := 47) dX18_next_2_26 (by decide) (by omega) (fun c26 => ?_) (fun c26 => by omega)
        refine ev_aload_n dX18_next_2_47 rfl ?_
        refine ev_iconstZ dX18_next_2_48 ?_
        refine ev_callNE dX18_next_2_49 (nv_X18_33 hG) fe_part ((e5.sub W1.2.1).cls) rfl rfl (n_part (i := 0) (e5.sub W1.2.1) (d := 3) hq0 hkq0 hal (Nat.le_refl _)) (by omega) (Nat.le_of_ble_eq_true rfl) ?_
        refine ev_astore_n dX18_next_2_52 (by decide) rfl ?_
        dsimp only [List.set]
        refine ev_goto (tgt := 11) dX18_next_2_53 (by decide) ?_
        skip
        exact hI3 h1 L1 mc1 _ _ _ d W1 (by omega) (by omega) hd _
end S4S

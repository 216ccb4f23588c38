/-! THE COMPONENT: perform() of a tree (printed by gen/mkl_6.py) -/
section L6S
variable {g : GB} {M : MI} {d c k : Nat} {h : HM}
theorem st4_fold : ∀ (ps : List Pt) (O : Op), (∀ e q : Nat, O.2.2.2.1 e q ≤ 4) → (∀ P ∈ ps, ∀ e q : Nat, P.2.1 e q ≤ 4) → ∀ e q : Nat, (foldO O ps).2.2.2.1 e q ≤ 4 := by
  intro ps
  induction ps with
  | nil => intro O h _; exact h
  | cons P ps ih =>
    intro O h hp
    refine ih (mergeO O P) (fun e q => ?_) (fun Q hQ => hp Q (List.mem_cons_of_mem _ hQ))
    show (if mLong O P then O.2.2.2.1 else mSteps O P) e q ≤ 4
    by_cases c : mLong O P = true
    · rw [if_pos c]; exact h e q
    · rw [if_neg c]
      unfold mSteps
      split
      · exact hp P List.mem_cons_self _ _
      · exact h e q
theorem st4_close {O : Op} {P : Pt} (h : ∀ e q : Nat, O.2.2.2.1 e q ≤ 4) (hc : closeE O = .ok P) : ∀ e q : Nat, P.2.1 e q ≤ 4 := by
  obtain ⟨-, -, -, -, hP⟩ := closeE_ok hc
  rw [hP]
  show ∀ e q : Nat, timesS O (cTimes O) e q ≤ 4
  have key : ∀ t e q : Nat, timesS O t e q ≤ 4 := by
    intro t
    induction t with
    | zero => intro e q; exact Nat.zero_le _
    | succ t ih =>
      intro e q
      unfold timesS
      split
      · unfold onceS
        split
        · exact oppN_4 (h _ _)
        · split
          · exact oppN_4 (h _ _)
          · exact h _ _
      · exact ih e q
  exact key _
theorem foldE_foldO : ∀ (cs : List (List Nd)) (O : Op), (∀ c ∈ cs, sem c = .ok (mean c)) → (cs.map sem).foldl mergeE (.ok O) = .ok (foldO O (cs.map mean)) := by
  intro cs
  induction cs with
  | nil => intro O _; rfl
  | cons c cs ih =>
    intro O h
    rw [List.map_cons, List.foldl_cons, h c List.mem_cons_self]
    exact ih (mergeO O (mean c)) (fun c' hc' => h c' (List.mem_cons_of_mem _ hc'))
theorem lst_4 {off : Nat} {dl sl : List Nat} (hs : ∀ u ∈ sl, u ≤ 4) : ∀ i e q : Nat, lst off dl sl i e q ≤ 4 := by
  intro i
  induction i with
  | zero => intro e q; exact Nat.zero_le _
  | succ i ih =>
    intro e q
    unfold lst
    split
    · rename_i c
      rw [List.getD_eq_getElem?_getD]
      have hl : q - off * i < sl.length := by omega
      rw [List.getElem?_eq_getElem hl]
      exact hs _ (List.getElem_mem hl)
    · exact ih e q
theorem mem_le {ds : List Nat} {B : Nat} (h : ∀ i, i < ds.length → ds.getD i 0 ≤ B) : ∀ x ∈ ds, x ≤ B := fun x hx => Nat.le_of_lt_succ (mem_lt (B := B + 1) (fun i hi => Nat.lt_succ_of_le (h i hi)) x hx)
theorem st4_sem : ∀ (n : Nat) (l : List Nd), TR n l → (∀ nd ∈ l, ndOk2 nd) → ∀ P : Pt, sem l = .ok P → ∀ e q : Nat, P.2.1 e q ≤ 4 := by
  intro n
  induction n with
  | zero => intro l h; exact h.elim
  | succ n ih =>
    intro l H hok P hP
    obtain ⟨nd, cs, rfl, hc, hk, hcs⟩ := H
    have hkids := kids_ok hc hk hcs hP
    rw [sem_node hc hcs] at hP
    unfold semA at hP
    by_cases h2 : nd.1 ≤ 2
    · rw [if_pos h2] at hP
      unfold leafE at hP
      by_cases q2 : nd.1 = 2
      · rw [if_pos q2] at hP; cases hP; exact fun _ _ => Nat.zero_le _
      · rw [if_neg q2] at hP
        split at hP
        · cases hP
        · split at hP
          · cases hP
          · cases hP
            exact lst_4 (mem_le ((hok nd List.mem_cons_self).1.2.2.2 (by omega)).2.2.2) _
    · rw [if_neg h2] at hP
      unfold closeV at hP
      have hm : ∀ c ∈ cs, sem c = .ok (mean c) := fun c hc2 => by obtain ⟨Q, hQ⟩ := hkids c hc2; rw [mean_of hQ]; exact hQ
      rw [foldE_foldO cs _ hm] at hP
      refine st4_close (st4_fold _ _ (fun _ _ => Nat.zero_le _) (fun Q hQ => ?_)) hP
      obtain ⟨c, hc2, rfl⟩ := List.mem_map.mp hQ
      exact ih c (hcs c hc2) (fun x hx => hok x (List.mem_cons_of_mem _ (List.mem_flatten.mpr ⟨c, hc2, hx⟩))) _ (hm c hc2)
/-- how a tree performs itself -/
theorem n_perform {I : HM} (hG : GKx g) : ∀ (n a : Nat) (l : List Nd), NodeAt I n a l → l.length < 1000000 → (∀ nd ∈ l, ndOk2 nd) → ∀ P : Pt, sem l = .ok P → Pf g I (6 * n + 8) (rootK l) a P := by
  intro n
  induction n with
  | zero => intro a l H; exact H.elim
  | succ n ih =>
    intro a l H hl hok P hP
    have hH := H
    obtain ⟨nd, cs, as, rfl, e2, e3, e4, e5, e6⟩ := H
    have hcs : ∀ c ∈ cs, TR n c := fun c hc => by
      obtain ⟨i, hi⟩ := List.getElem?_of_mem hc
      have hl2 := (List.getElem?_eq_some_iff.mp hi).1
      exact (e6 i _ c hi (List.getElem?_eq_getElem (by omega : i < as.length))).tree
    have hok2 : ∀ c ∈ cs, ∀ nd ∈ c, ndOk2 nd := fun c hc x hx => hok x (List.mem_cons_of_mem _ (List.mem_flatten.mpr ⟨c, hc, hx⟩))
    have hlc : ∀ c ∈ cs, c.length < 1000000 := fun c hc => by have := flat_mem hc; simp only [List.length_cons] at hl; omega
    have hkids := kids_ok e2 e3 hcs hP
    have hm : ∀ c ∈ cs, sem c = .ok (mean c) := fun c hc2 => by obtain ⟨Q, hQ⟩ := hkids c hc2; rw [mean_of hQ]; exact hQ
    have hnr : ∀ c ∈ cs, nrP (mean c) := fun c hc => nrP_sem n c _ (hcs c hc) (hok2 c hc) (hm c hc)
    have h99 : ∀ c ∈ cs, lenV c = (mean c).1.1 ∧ (mean c).1.1 ≤ 99 := fun c hc => len_ok n c (hcs c hc) (hok2 c hc) _ (hm c hc)
    have hal : as.length < 1000000 := ndC.len (a := a) (nd := nd) e4 e6 hl
    have ho := hok nd List.mem_cons_self
    show Pf g I _ nd.1 a P
    intro h sc m ss cu ru S C fm r b hI hS hK hr hn hf hdot
    have one : 3 ≤ nd.1 → nd.1 ≤ 5 → ∃ p c, as = [p] ∧ cs = [c] := fun q1 q2 => by
      have hl1 : cs.length = 1 := by rw [← e2]; exact ho.2.1 q1 q2
      obtain ⟨c, hc⟩ := List.length_eq_one_iff.mp hl1
      obtain ⟨p, hp⟩ := List.length_eq_one_iff.mp (e4.trans hl1)
      exact ⟨p, c, hp, hc⟩
    by_cases h2 : nd.1 ≤ 2
    · have hc0 := e3.mp h2
      subst hc0
      rw [sem_node e2 hcs] at hP
      unfold semA at hP
      rw [if_pos h2] at hP
      unfold leafE at hP
      by_cases q2 : nd.1 = 2
      · rw [if_pos q2] at hP
        cases hP
        have ef : fam_perform nd.1 = mX12_perform := by rw [q2]; rfl
        rw [ef]
        refine ScH.kc (fun e k he hk => ?_) (fun k hk => rfl) (k_pfC hK hn (by have : fm + 0 ≤ m := hf; omega))
        unfold pfS
        rw [if_neg (show ¬ (fm ≤ k ∧ k < fm + 0 ∧ _) by omega)]
      · rw [if_neg q2] at hP
        split at hP
        · cases hP
        · split at hP
          · cases hP
          · cases hP
            have ef : fam_perform nd.1 = mX13_perform := by
              obtain ⟨k, rr⟩ := nd
              match k, h2, q2 with
              | 0, _, _ => rfl
              | 1, _, _ => rfl
              | 2, _, q => exact absurd rfl q
            rw [ef]
            obtain ⟨da, st, sv, D', -, f1, f2, f3, f4, -, f6⟩ := e5.1 (by omega)
            have hk1 := ho.1.2.2.2 (by omega)
            exact k_pfP hG hI hS f1 f2 f3 f4 (mem_lt hk1.2.2.1) (mem_le hk1.2.2.2) hk1.1 f6 hK hr hn hf hdot (by omega)
    · by_cases h5 : nd.1 ≤ 5
      · obtain ⟨p, c, rfl, rfl⟩ := one (by omega) h5
        have hc1 : nd.2.2.1 = 1 := e2
        have hTc := hcs c List.mem_cons_self
        have hPc := hm c List.mem_cons_self
        have hN := e6 0 p c rfl rfl
        have hk := ih p c hN (hlc c List.mem_cons_self) (hok2 c List.mem_cons_self) _ hPc
        have h4s := st4_sem n c hTc (hok2 c List.mem_cons_self) _ hPc
        obtain ⟨hl1, hl2⟩ := h99 c List.mem_cons_self
        have hQ : sem (nd :: c) = .ok P := by rw [← hP, List.flatten_singleton]
        by_cases q3 : nd.1 = 3
        · have ef : fam_perform nd.1 = mX10_perform := by rw [q3]; rfl
          rw [ef]
          obtain ⟨p', hp', f1⟩ := e5.2.2.1 q3
          cases hp'
          have ht2 := ho.2.2.2 q3
          obtain ⟨r1, r2, r3, r4⟩ := pf_rep (fm := fm) (r := r) (b := b) (S := S) (C := C) hc1 q3 hTc hPc hl2 hQ (hnr c List.mem_cons_self) (by omega)
          rw [r1] at hf hdot
          rw [r2] at hdot
          have hlen := n_len hG n p c (hN.sub hI) (hlc c List.mem_cons_self) (hok2 c List.mem_cons_self) ⟨_, hPc⟩
          rw [hl1] at hlen
          exact ScH.kc (fun e k he hk => r3 e k he) (fun k hk => r4 k) (k_pf10 hG hI hS f1 hN.cls hk hK hr hn hf hdot (by have := ho.1.2.1; omega) hlen (by omega))
        · by_cases q4 : nd.1 = 4
          · have ef : fam_perform nd.1 = mX14_perform := by rw [q4]; rfl
            rw [ef]
            obtain ⟨p', hp', f1⟩ := e5.2.2.2.1 q4
            cases hp'
            obtain ⟨r1, r2, r3, r4⟩ := pf_mir (fm := fm) (r := r) (b := b) (S := S) (C := C) hc1 q4 hTc hPc hl2 hQ (hnr c List.mem_cons_self) hr h4s
            rw [r1] at hf hdot
            rw [r2] at hdot
            exact ScH.kc (fun e k he hk => r3 e k he) (fun k hk => r4 k) (k_pf14 hG hI hS f1 hN.cls hk hK hr hn hf hdot (by omega))
          · have q5 : nd.1 = 5 := by omega
            have ef : fam_perform nd.1 = mX15_perform := by rw [q5]; rfl
            rw [ef]
            obtain ⟨p', hp', f1⟩ := e5.2.2.2.2.1 q5
            cases hp'
            obtain ⟨r1, r2, r3, r4⟩ := pf_rev (fm := fm) (r := r) (b := b) (S := S) (C := C) hc1 q5 hTc hPc hl2 hQ (hnr c List.mem_cons_self) hr h4s
            rw [r1] at hf hdot
            rw [r2] at hdot
            exact ScH.kc (fun e k he hk => r3 e k he) (fun k hk => r4 k) (k_pf15 hG hI hS f1 hN.cls hk hK hr hn hf hdot (by omega))
      · have hP0 := hP
        rw [sem_node e2 hcs] at hP
        unfold semA at hP
        rw [if_neg h2] at hP
        unfold closeV at hP
        rw [foldE_foldO cs _ hm] at hP
        have hP1 : closeE (foldO (openO nd) (cs.map mean)) = .ok P := hP
        obtain ⟨c1, c2, c3, c4, c5⟩ := closeE_ok hP1
        have hkd : (foldO (openO nd) (cs.map mean)).1.1 = nd.1 := by
          have : ∀ (ps : List Pt) (O : Op), (foldO O ps).1.1 = O.1.1 := fun ps => by
            induction ps with
            | nil => intro O; rfl
            | cons P t ih => intro O; exact ih _
          exact this _ _
        obtain ⟨v1, v2, v3, v4⟩ := closed_v (fm := fm) (r := r) (b := b) (S := S) (C := C) (by rw [hkd]; omega) hP1
        have ef : fam_perform nd.1 = mX16_perform ∧ fam_length nd.1 = mX16_length := by
          obtain ⟨k, rr⟩ := nd
          match k, h5 with
          | 0, h | 1, h | 2, h | 3, h | 4, h | 5, h => exact absurd (by simp) h
          | k + 6, _ => exact ⟨rfl, rfl⟩
        rw [ef.1]
        obtain ⟨pl, v', cp, mc, f, f1, f2, f3, f4, f5⟩ := e5.2.2.2.2.2 (by omega)
        have hlen9 := n_len hG (n + 1) a _ (hH.sub hI) hl hok ⟨P, hP0⟩
        have hlv := (len_ok (n + 1) _ hH.tree hok P hP0).1
        rw [hlv, v1] at hlen9
        have hlen9' : Kc g mX16_length (5 * (n + 1)) 0 0 [.ref a] h (sR (some (vz (((foldO (openO nd) (cs.map mean)).2.1.1 : Nat) : Int))) h) := by rw [← ef.2]; exact hlen9
        rw [v1] at hf hdot v3 v4
        rw [v2] at hdot
        refine ScH.kc (fun e k he hk => v3 e k) (fun k hk => v4 k) (k_pf16 (D := 6 * n + 8) (D2 := 5 * (n + 1)) hG hI hS (by rw [bI_dec]; exact f1) f2 f3 f4 f5 hal (by rw [List.length_map]; exact e4) (fun i q Q hq hQi => ?_) (fun Q hQ => by obtain ⟨c, hc, rfl⟩ := List.mem_map.mp hQ; exact hnr c hc) c2 c1 hlen9' hK hr hn hf hdot (by omega))
        rw [List.getElem?_map] at hQi
        cases hci : cs[i]? with
        | none => rw [hci] at hQi; cases hQi
        | some c =>
          rw [hci] at hQi
          have hQe : mean c = Q := Option.some.inj hQi
          subst hQe
          have hcm := List.mem_of_getElem? hci
          have hN := e6 i q c hci hq
          refine ⟨rootK c, hN.cls, fun h1 hI1 => ?_, ih q c hN (hlc c hcm) (hok2 c hcm) _ (hm c hcm)⟩
          have := n_len hG (n + 1) q c ((hN.mono (Nat.le_succ n)).sub hI1) (hlc c hcm) (hok2 c hcm) ⟨_, hm c hcm⟩
          rw [(h99 c hcm).1] at this
          exact this
end L6S

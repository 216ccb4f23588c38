/-! THE COMPONENT: used() and cues() of trees (printed by gen) -/
section O8S
variable {g : GB} {M : MI} {d c k : Nat} {h : HM}
theorem cu_X13_23 (hG : GKx g) {C : String} : EntV g RX13 (.invokespecial 23) 3 C mX21_used.1 0 := entV_SD (M := mX21_used) (x := ⟨"DanceNotation$Leaf", "used", "()I"⟩) (owner := "DanceNotation$Parts") (i := 2) hG (List.mem_of_getElem? (i := 12) rfl) (List.mem_of_getElem? (i := 13) rfl) rfl rfl q1910 q2050 q2051 (by decide +kernel) (by decide +kernel)
theorem cu_X13_43 {C : String} : EntV g RX13 (.invokespecial 43) 3 C mX8_check.1 0 := entV_SU2 (M := mX8_check) (x := ⟨"DanceNotation$Leaf", "check", "()V"⟩) (owner := "DanceNotation$Node") q2014 q2015 rfl q1910 q2017 q1980 q2018 (by decide +kernel) (by decide +kernel)
theorem cu_X10_17 {C : String} : EntV g RX10 (.invokespecial 17) 3 C mX8_cues.1 0 := entV_SU2 (M := mX8_cues) (x := ⟨"DanceNotation$Single", "cues", "()I"⟩) (owner := "DanceNotation$Node") q2030 q2031 rfl q1131 q2033 q2020 q2034 (by decide +kernel) (by decide +kernel)
def orD (ds : List Nat) : Nat := ds.foldl (fun a x => a ||| 1 <<< x) 0
theorem orD_twl : ∀ (ds : List Nat) (p : Nat × Nat), (ds.foldl (fun p d => (p.1 ||| (p.2 &&& 1 <<< d), p.2 ||| 1 <<< d)) p).2 = ds.foldl (fun a x => a ||| 1 <<< x) p.2 := by
  intro ds
  induction ds with
  | nil => intro p; rfl
  | cons d ds ih => intro p; exact ih _
theorem orD_eq (ds : List Nat) : orD ds = (twl ds).2 := (orD_twl ds (0, 0)).symm
theorem shl8 {x : Nat} (hx : x < 8) : 1 <<< x < 256 := by
  have : ∀ x : Fin 8, 1 <<< x.val < 256 := by decide
  exact this ⟨x, hx⟩
theorem orD_lt {ds : List Nat} (h : ∀ x ∈ ds, x < 8) : orD ds < 256 := by
  have : ∀ (ds : List Nat) (z : Nat), (∀ x ∈ ds, x < 8) → z < 256 → ds.foldl (fun a x => a ||| 1 <<< x) z < 256 := by
    intro ds
    induction ds with
    | nil => intro z _ hz; exact hz
    | cons d t ih => intro z h hz; exact ih _ (fun x hx => h x (List.mem_cons_of_mem _ hx)) (Nat.or_lt_two_pow (n := 8) hz (shl8 (h d List.mem_cons_self)))
  exact this ds 0 h (by decide)
theorem orD_take {ds : List Nat} {i x : Nat} (h : ds[i]? = some x) : orD (ds.take (i + 1)) = orD (ds.take i) ||| 1 <<< x := by
  unfold orD; rw [take_snoc h, List.foldl_append]; rfl
set_option maxRecDepth 100000 in
set_option maxHeartbeats 4000000 in
theorem k_usedP {a : Nat} {nd : Nd} (hG : GKx g) (H : ndC h a nd []) (h1 : nd.1 ≤ 1) (ho : ndOk2 nd) (hd : 5 ≤ d) : Kc g mX13_used d (0) (0) [.ref a] h (sR (some (vz (((twl nd.2.2.2.1).2 : Nat) : Int))) h) := by
  refine Kc.of (ls := [some (.ref a), none, none, none, none, none]) (by decide +kernel) (Nat.le_of_ble_eq_true rfl) rfl ?_
  obtain ⟨da, st, sv, D, -, ha, hda, hD, -, -, hl⟩ := H.1 h1
  have hds := mem_lt (ho.1.2.2.2 h1).2.2.1
  refine ev_aload_n dX13_used_0 rfl ?_
  refine ev_callVE dX13_used_1 (cu_X13_23 hG) ce_X21_used ha rfl rfl rfl (l_used (d := 4) (D := 0) (as := []) (ws := []) hG H ⟨rfl, fun i q w hq => by simp at hq⟩ (by simp) (by omega) (by simp)) (by omega) (Nat.le_of_ble_eq_true rfl) ?_
  refine ev_istore_n dX13_used_4 (by decide) rfl ?_
  dsimp only [List.set]
  refine ev_aload_n dX13_used_5 rfl ?_
  refine ev_getf dX13_used_6 gf_X13_19_X13 ha rfl ?_
  refine ev_astore_n dX13_used_9 (by decide) rfl ?_
  dsimp only [List.set]
  refine ev_aload_n dX13_used_10 rfl ?_
  refine ev_alenZ dX13_used_11 hda rfl ?_
  refine ev_istore_n dX13_used_12 (by decide) rfl ?_
  dsimp only [List.set]
  refine ev_iconstZ dX13_used_13 ?_
  refine ev_istore dX13_used_14 (by decide) rfl ?_
  dsimp only [List.set]
  refine ev_for (st := []) nd.2.2.2.1.length (fun i h1 => h1 = h) (fun i => [some (.ref a), some (vz ((orD (nd.2.2.2.1.take i) : Nat) : Int)), some (.ref da), some (vz ((nd.2.2.2.1.length : Nat) : Int)), some (vz ((i : Nat) : Int)), none]) 0 (Nat.zero_le _) rfl ⟨rfl, rfl, rfl, rfl, rfl, trivial⟩ (fun i h1 _ hi eh hK => ?_) (fun h1 eh => ?_)
  · subst eh
    obtain ⟨x, hx⟩ : ∃ x, nd.2.2.2.1[i]? = some x := ⟨_, List.getElem?_eq_getElem hi⟩
    have hx8 := hds x (List.mem_of_getElem? hx)
    have hDx : D ((i : Nat) : Int).toNat = ((x : Nat) : Int) := by rw [Int.toNat_natCast]; exact hD i x hx
    have hb1 := orD_lt (fun y hy => hds y (List.mem_of_mem_take (i := i) hy))
    have hb2 := shl8 hx8
    refine ev_iload dX13_used_16 rfl ?_
    refine ev_iload_n dX13_used_18 rfl ?_
    refine ev_icmp_geZ (tgt := 41) dX13_used_19 (by decide) (by omega) (by omega) (fun c19 => by omega) (fun c19 => ?_)
    refine ev_aload_n dX13_used_22 rfl ?_
    refine ev_iload dX13_used_23 rfl ?_
    refine ev_ialdY dX13_used_25 hda (by omega) ?_
    rw [hDx]
    refine ev_istore dX13_used_26 (by decide) rfl ?_
    dsimp only [List.set]
    refine ev_iload_n dX13_used_28 rfl ?_
    refine ev_iconstZ dX13_used_29 ?_
    refine ev_iload dX13_used_30 rfl ?_
    refine ev_ishlZ dX13_used_32 hx8 ?_
    refine ev_iorZ (a := orD (nd.2.2.2.1.take i)) (b := 1 <<< x) dX13_used_33 (by omega) (by omega) ?_
    refine ev_istore_n dX13_used_34 (by decide) rfl ?_
    dsimp only [List.set]
    refine ev_iincZ dX13_used_35 rfl (by decide) rfl ?_
    dsimp only [List.set]
    refine ev_goto (tgt := 16) dX13_used_38 (by decide) ?_
    exact hK _ _ ⟨rfl, vz_eq (by rw [orD_take hx]), rfl, rfl, vz_eq (by omega), trivial⟩ rfl
  · subst eh
    simp only [List.take_length]
    refine ev_iload dX13_used_16 rfl ?_
    refine ev_iload_n dX13_used_18 rfl ?_
    refine ev_icmp_geZ (tgt := 41) dX13_used_19 (by decide) (by omega) (by omega) (fun c19 => ?_) (fun c19 => by omega)
    refine ev_iload_n dX13_used_41 rfl ?_
    refine ev_ireturn dX13_used_42 rfl ?_
    exact ⟨by rw [orD_eq], rfl⟩
set_option maxRecDepth 100000 in
set_option maxHeartbeats 4000000 in
theorem k_cuesC {a : Nat} : Kc g mX12_cues d (0) (0) [.ref a] h (sR (some (vz ((1 : Nat) : Int))) h) := by
  refine Kc.of (ls := [some (.ref a)]) (by decide +kernel) (Nat.le_of_ble_eq_true rfl) rfl ?_
  refine ev_iconstZ dX12_cues_0 ?_
  refine ev_ireturn dX12_cues_1 rfl ?_
  exact ⟨rfl, rfl⟩
set_option maxRecDepth 100000 in
set_option maxHeartbeats 4000000 in
theorem k_cuesR {a p D n : Nat} {nd : Nd} {as ws : List Nat} (hG : GKx g) (H : ndC h a nd as) (ha : h a = some (.inr (7, [.ref p, vz ((n : Nat) : Int)]))) (hP : Prs g fam_cues h D as ws) (hl : as.length < 1000000) (hd : D + 6 ≤ d) : Kc g mX10_cues d (0) (0) [.ref a] h (sR (some (vz ((n * ws.foldl (· + ·) 0 : Nat) : Int))) h) := by
  refine Kc.of (ls := [some (.ref a)]) (by decide +kernel) (Nat.le_of_ble_eq_true rfl) rfl ?_
  refine ev_aload_n dX10_cues_0 rfl ?_
  refine ev_getf dX10_cues_1 gf_X10_7_X10 ha rfl ?_
  refine ev_aload_n dX10_cues_4 rfl ?_
  refine ev_callVE dX10_cues_5 cu_X10_17 ce_X8_cues ha rfl rfl rfl (l_cues (d := D + 5) hG H hP hl (by omega)) (by omega) (Nat.le_of_ble_eq_true rfl) ?_
  refine ev_imulZ dX10_cues_8 ?_
  refine ev_ireturn dX10_cues_9 rfl ?_
  exact ⟨congrArg Sum.inl (vz_eq (Int.natCast_mul _ _).symm), rfl⟩
def usedA (nd : Nd) (vs : List Nat) : Nat := if nd.1 ≤ 1 then (twl nd.2.2.2.1).2 else vs.foldl (· ||| ·) 0
def usedV (l : List Nd) : Nat := val usedA 0 l
def cuesA (nd : Nd) (vs : List Nat) : Nat := if nd.1 = 2 then 1 else if nd.1 = 3 then nd.2.1 * vs.foldl (· + ·) 0 else vs.foldl (· + ·) 0
def cuesV (l : List Nd) : Nat := val cuesA 0 l
theorem usedV_lt : ∀ (n : Nat) (l : List Nd), TR n l → (∀ nd ∈ l, ndOk2 nd) → usedV l < 256 := by
  intro n
  induction n with
  | zero => intro l h; exact h.elim
  | succ n ih =>
    intro l H hok
    obtain ⟨nd, cs, rfl, hc, hk, hcs⟩ := H
    unfold usedV
    rw [val_node usedA 0 hc hcs]
    unfold usedA
    split
    · rename_i h1
      rw [← orD_eq]
      exact orD_lt (mem_lt ((hok nd List.mem_cons_self).1.2.2.2 h1).2.2.1)
    · refine orf_lt (fun w hw => ?_) 0 (by decide)
      obtain ⟨c, hc2, rfl⟩ := List.mem_map.mp hw
      exact ih c (hcs c hc2) (fun x hx => hok x (List.mem_cons_of_mem _ (List.mem_flatten.mpr ⟨c, hc2, hx⟩)))
/-- used() -/
theorem n_used (hG : GKx g) : ∀ (n a : Nat) (l : List Nd), NodeAt h n a l → l.length < 1000000 → (∀ nd ∈ l, ndOk2 nd) → Kc g (fam_used (rootK l)) (5 * n) 0 0 [.ref a] h (sR (some (vz (usedV l : Nat))) h) := by
  intro n
  induction n with
  | zero => intro a l H; exact H.elim
  | succ n ih =>
    intro a l H hl hok
    obtain ⟨nd, cs, as, rfl, e2, e3, e4, e5, e6⟩ := H
    have hcs : ∀ c ∈ cs, TR n c := fun c hc => by
      obtain ⟨i, hi⟩ := List.getElem?_of_mem hc
      have hl2 := (List.getElem?_eq_some_iff.mp hi).1
      exact (e6 i _ c hi (List.getElem?_eq_getElem (by omega : i < as.length))).tree
    have hok2 : ∀ c ∈ cs, ∀ nd ∈ c, ndOk2 nd := fun c hc x hx => hok x (List.mem_cons_of_mem _ (List.mem_flatten.mpr ⟨c, hc, hx⟩))
    have hv : usedV (nd :: cs.flatten) = usedA nd (cs.map usedV) := by unfold usedV; rw [val_node usedA 0 e2 hcs]
    rw [hv]
    show Kc g (fam_used nd.1) _ 0 0 _ h _
    by_cases h1 : nd.1 ≤ 1
    · have hc0 : cs = [] := e3.mp (by omega)
      have ha0 : as = [] := List.eq_nil_of_length_eq_zero (by rw [e4, hc0]; rfl)
      rw [ha0] at e5
      have r := k_usedP (d := 5 * (n + 1)) hG e5 h1 (hok nd List.mem_cons_self) (by omega)
      have eu : usedA nd (cs.map usedV) = (twl nd.2.2.2.1).2 := by unfold usedA; rw [if_pos h1]
      rw [eu]
      have ef : fam_used nd.1 = mX13_used := by
        obtain ⟨k, r⟩ := nd
        match k, h1 with
        | 0, _ => rfl
        | 1, _ => rfl
      rw [ef]; exact r
    · have hP : Prs g fam_used h (5 * n) as (cs.map usedV) := Prs.of e4 e6 (fun q c hc hn => ih q c hn (by have := flat_mem hc; simp only [List.length_cons] at hl; omega) (hok2 c hc))
      have r := l_used (d := 5 * (n + 1)) hG e5 hP (ndC.len (a := a) (nd := nd) e4 e6 hl) (by omega) (fun w hw => by obtain ⟨c, hc, rfl⟩ := List.mem_map.mp hw; exact usedV_lt n c (hcs c hc) (hok2 c hc))
      have eu : usedA nd (cs.map usedV) = (cs.map usedV).foldl (· ||| ·) 0 := by unfold usedA; rw [if_neg h1]
      rw [eu]
      have ef : fam_used nd.1 = mX21_used := by
        obtain ⟨k, r⟩ := nd
        match k, h1 with
        | 0, h1 => exact absurd (Nat.zero_le _) h1
        | 1, h1 => exact absurd (Nat.le_refl _) h1
        | 2, _ | 3, _ | 4, _ | 5, _ | k + 6, _ => rfl
      rw [ef]; exact r
/-- cues() of a node whose parts' cues are known -/
theorem l_cuesN {a D : Nat} {nd : Nd} {as ws : List Nat} (hG : GKx g) (H : ndC h a nd as) (hP : Prs g fam_cues h D as ws) (hl : as.length < 1000000) (hd : D + 6 ≤ d) : Kc g (fam_cues nd.1) d 0 0 [.ref a] h (sR (some (vz (cuesA nd ws : Nat))) h) := by
  by_cases h2 : nd.1 = 2
  · have ef : fam_cues nd.1 = mX12_cues := by rw [h2]; rfl
    rw [ef, show cuesA nd ws = 1 by unfold cuesA; rw [if_pos h2]]
    exact k_cuesC
  · by_cases h3 : nd.1 = 3
    · have ef : fam_cues nd.1 = mX10_cues := by rw [h3]; rfl
      rw [ef, show cuesA nd ws = nd.2.1 * ws.foldl (· + ·) 0 by unfold cuesA; rw [if_neg h2, if_pos h3]]
      obtain ⟨p, -, e⟩ := H.2.2.1 h3
      exact k_cuesR hG H e hP hl hd
    · have ef : fam_cues nd.1 = mX8_cues := by
        obtain ⟨k, r⟩ := nd
        match k, h2, h3 with
        | 0, _, _ | 1, _, _ | 4, _, _ | 5, _, _ | k + 6, _, _ => rfl
        | 2, h, _ => exact absurd rfl h
        | 3, _, h => exact absurd rfl h
      rw [ef, show cuesA nd ws = ws.foldl (· + ·) 0 by unfold cuesA; rw [if_neg h2, if_neg h3]]
      exact l_cues hG H hP hl (by omega)
/-- cues() -/
theorem n_cues (hG : GKx g) : ∀ (n a : Nat) (l : List Nd), NodeAt h n a l → l.length < 1000000 → Kc g (fam_cues (rootK l)) (6 * n) 0 0 [.ref a] h (sR (some (vz (cuesV l : Nat))) h) := by
  intro n
  induction n with
  | zero => intro a l H; exact H.elim
  | succ n ih =>
    intro a l H hl
    have hT := H.tree
    obtain ⟨nd, cs, as, rfl, e2, e3, e4, e5, e6⟩ := H
    have hcs : ∀ c ∈ cs, TR n c := fun c hc => by
      obtain ⟨i, hi⟩ := List.getElem?_of_mem hc
      have hl2 := (List.getElem?_eq_some_iff.mp hi).1
      exact (e6 i _ c hi (List.getElem?_eq_getElem (by omega : i < as.length))).tree
    have hP : Prs g fam_cues h (6 * n) as (cs.map cuesV) := Prs.of e4 e6 (fun q c hc hn => ih q c hn (by have := flat_mem hc; simp only [List.length_cons] at hl; omega))
    have hv : cuesV (nd :: cs.flatten) = cuesA nd (cs.map cuesV) := by unfold cuesV; rw [val_node cuesA 0 e2 hcs]
    rw [hv]
    exact l_cuesN (d := 6 * (n + 1)) hG e5 hP (ndC.len (a := a) (nd := nd) e4 e6 hl) (by omega)
/-! what used(), cues(), depth() are, of a piece that is all right -/
theorem fold_pt : ∀ (cs : List (List Nd)) (O O' : Op), (∀ c ∈ cs, ∀ P : Pt, sem c = .ok P → usedV c = P.1.2.1 ∧ cuesV c = P.1.2.2.2 ∧ depV c = P.1.2.2.1) → (cs.map sem).foldl mergeE (.ok O) = .ok O' → O'.2.1.2.1 = (cs.map usedV).foldl (· ||| ·) O.2.1.2.1 ∧ O'.2.1.2.2.2 = (cs.map cuesV).foldl (· + ·) O.2.1.2.2.2 ∧ O'.2.1.2.2.1 = (cs.map depV).foldl max O.2.1.2.2.1 ∧ O'.1.1 = O.1.1 ∧ O'.1.2.1 = O.1.2.1 := by
  intro cs
  induction cs with
  | nil => intro O O' _ h; cases h; exact ⟨rfl, rfl, rfl, rfl, rfl⟩
  | cons c cs ih =>
    intro O O' hw h
    rw [List.map_cons, List.foldl_cons] at h
    cases hs : sem c with
    | error e =>
      rw [hs] at h
      have : (cs.map sem).foldl mergeE (.error e) = .ok O' := h
      rw [foldl_err] at this
      cases this
    | ok P =>
      rw [hs] at h
      obtain ⟨h1, h2, h3, h4, h5⟩ := ih (mergeO O P) O' (fun c' hc' => hw c' (List.mem_cons_of_mem _ hc')) h
      obtain ⟨e1, e2, e3⟩ := hw c List.mem_cons_self P hs
      refine ⟨?_, ?_, ?_, by rw [h4]; rfl, by rw [h5]; rfl⟩
      · rw [h1, List.map_cons, List.foldl_cons, e1]; rfl
      · rw [h2, List.map_cons, List.foldl_cons, e2]; rfl
      · rw [h3, List.map_cons, List.foldl_cons, e3]; rfl
theorem pt_ok : ∀ (n : Nat) (l : List Nd), TR n l → (∀ nd ∈ l, ndOk2 nd) → ∀ P : Pt, sem l = .ok P → usedV l = P.1.2.1 ∧ cuesV l = P.1.2.2.2 ∧ depV l = P.1.2.2.1 := by
  intro n
  induction n with
  | zero => intro l h; exact h.elim
  | succ n ih =>
    intro l H hok P hP
    obtain ⟨nd, cs, rfl, hc, hk, hcs⟩ := H
    have hsub : ∀ c ∈ cs, ∀ Q : Pt, sem c = .ok Q → usedV c = Q.1.2.1 ∧ cuesV c = Q.1.2.2.2 ∧ depV c = Q.1.2.2.1 := fun c hm Q hQ => ih c (hcs c hm) (fun x hx => hok x (List.mem_cons_of_mem _ (List.mem_flatten.mpr ⟨c, hm, hx⟩))) Q hQ
    have hu : usedV (nd :: cs.flatten) = usedA nd (cs.map usedV) := by unfold usedV; rw [val_node usedA 0 hc hcs]
    have hcu : cuesV (nd :: cs.flatten) = cuesA nd (cs.map cuesV) := by unfold cuesV; rw [val_node cuesA 0 hc hcs]
    have hde : depV (nd :: cs.flatten) = depA nd (cs.map depV) := by unfold depV; rw [val_node depA 0 hc hcs]
    rw [hu, hcu, hde]
    rw [sem_node hc hcs] at hP
    unfold semA at hP
    by_cases h2 : nd.1 ≤ 2
    · have hc0 := hk.mp h2
      subst hc0
      rw [if_pos h2] at hP
      unfold leafE at hP
      by_cases q2 : nd.1 = 2
      · rw [if_pos q2] at hP; cases hP
        refine ⟨?_, ?_, rfl⟩
        · unfold usedA; rw [if_neg (by omega)]; rfl
        · unfold cuesA; rw [if_pos q2]
      · rw [if_neg q2] at hP
        split at hP
        · cases hP
        · split at hP
          · cases hP
          · cases hP
            refine ⟨?_, ?_, rfl⟩
            · unfold usedA; rw [if_pos (by omega)]
            · unfold cuesA; rw [if_neg q2, if_neg (by omega)]; rfl
    · rw [if_neg h2] at hP
      unfold closeV at hP
      cases hf : (cs.map sem).foldl mergeE (.ok (openO nd)) with
      | error e => rw [hf] at hP; cases hP
      | ok O =>
        rw [hf] at hP
        obtain ⟨c1, c2, c3, c4, c5⟩ := closeE_ok hP
        obtain ⟨f1, f2, f3, f4, f5⟩ := fold_pt cs _ _ hsub hf
        rw [c5]
        refine ⟨?_, ?_, ?_⟩
        · unfold usedA; rw [if_neg (by omega)]; exact f1.symm
        · have f4' : O.1.1 = nd.1 := f4
          have f5' : O.1.2.1 = nd.2.1 := f5
          have f2' : O.2.1.2.2.2 = (cs.map cuesV).foldl (· + ·) 0 := f2
          show cuesA nd (cs.map cuesV) = O.2.1.2.2.2 * cTimes O
          unfold cuesA cTimes
          rw [f4', f5', f2', if_neg (by omega)]
          by_cases q3 : nd.1 = 3
          · rw [if_pos q3, if_pos q3, Nat.mul_comm]
          · rw [if_neg q3, if_neg q3, Nat.mul_one]
        · have f3' : O.2.1.2.2.1 = (cs.map depV).foldl max 0 := f3
          show depA nd (cs.map depV) = O.2.1.2.2.1 + 1
          unfold depA
          rw [f3']; omega
end O8S

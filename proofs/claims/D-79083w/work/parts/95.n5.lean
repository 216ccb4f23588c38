/-! THE COMPONENT: length() of a tree (printed by gen/mkn5.py) -/
section N5S
variable {g : GB} {M : MI} {d c k : Nat} {h : HM}
theorem Prs.one {fam : Nat → MI} {D p : Nat} {ws : List Nat} (hP : Prs g fam h D [p] ws) : ∃ w κ : Nat, ws = [w] ∧ (∃ fs, h p = some (.inr (nCi κ, fs))) ∧ Kc g (fam κ) D 0 0 [.ref p] h (sR (some (vz (w : Nat))) h) := by
  obtain ⟨w, rfl⟩ := List.length_eq_one_iff.mp hP.1
  obtain ⟨κ, h1, h2⟩ := hP.2 0 p w rfl rfl
  exact ⟨w, κ, rfl, h1, h2⟩
theorem l_len {a D : Nat} {nd : Nd} {as ws : List Nat} (hG : GKx g) (H : ndC h a nd as) (ho : ndOk2 nd) (hP : Prs g fam_length h D as ws) (hw : ∀ w ∈ ws, w < 1000) (hl : as.length < 1000000) (hd : 4 ≤ d ∧ D + 2 ≤ d) : Kc g (fam_length nd.1) d 0 0 [.ref a] h (sR (some (vz (lenA nd ws : Nat))) h) := by
  obtain ⟨k, v, ch, ds, ss⟩ := nd
  obtain ⟨h1, h2, h3, h4, h5, h6⟩ := H
  obtain ⟨⟨-, -, -, hk1⟩, -⟩ := id ho
  match k with
  | 0 =>
    obtain ⟨da, st, sv, D', rfl, e1, e2, e3, e4, -⟩ := h1 (by simp)
    have r := k_lenP (d := d) hG e1 e2 e4 (hk1 (by simp)).1 (by omega)
    rw [List.length_map] at r
    exact r
  | 1 =>
    obtain ⟨da, st, sv, D', rfl, e1, e2, e3, e4, -⟩ := h1 (by simp)
    have r := k_lenP (d := d) hG e1 e2 e4 (hk1 (by simp)).1 (by omega)
    rw [List.length_map] at r
    exact r
  | 2 => exact k_lenC
  | 3 =>
    obtain ⟨p, rfl, e⟩ := h3 rfl
    obtain ⟨w, κ, rfl, q1, q2⟩ := hP.one
    exact k_lenR hG e q1 q2 hd.2
  | 4 =>
    obtain ⟨p, rfl, e⟩ := h4 rfl
    obtain ⟨w, κ, rfl, q1, q2⟩ := hP.one
    exact k_len9X14 hG e q1 q2 (by omega)
  | 5 =>
    obtain ⟨p, rfl, e⟩ := h5 rfl
    obtain ⟨w, κ, rfl, q1, q2⟩ := hP.one
    exact k_len9X15 hG e q1 q2 (by omega)
  | k + 6 =>
    obtain ⟨pl, v', cap, mc, f, e1, e2, e3, e4, e5⟩ := h6 (by simp)
    have r := k_lenV (d := d) (b := decide (k + 6 = 6)) hG e1 (by by_cases q : k = 0 <;> simp [q]) e2 e3 e4 e5 hP hl (fun _ => hw) (by omega)
    have e : lenA (k + 6, v, ch, ds, ss) ws = ws.foldl (lenF (decide (k + 6 = 6))) 0 := by
      unfold lenA
      rw [if_neg (by simp), if_neg (by simp), if_neg (by simp), if_neg (by simp)]
    rw [e]
    exact r
/-- length() of a piece that is all right -/
theorem n_len (hG : GKx g) : ∀ (n a : Nat) (l : List Nd), NodeAt h n a l → l.length < 1000000 → (∀ nd ∈ l, ndOk2 nd) → (∃ P : Pt, sem l = .ok P) → Kc g (fam_length (rootK l)) (5 * n) 0 0 [.ref a] h (sR (some (vz (lenV l : Nat))) h) := by
  intro n
  induction n with
  | zero => intro a l H; exact H.elim
  | succ n ih =>
    intro a l H hl hok ⟨P, hP⟩
    obtain ⟨nd, cs, as, rfl, e2, e3, e4, e5, e6⟩ := H
    have hcs : ∀ c ∈ cs, TR n c := fun c hc => by
      obtain ⟨i, hi⟩ := List.getElem?_of_mem hc
      have hl2 := (List.getElem?_eq_some_iff.mp hi).1
      exact (e6 i _ c hi (List.getElem?_eq_getElem (by omega : i < as.length))).tree
    have hkids := kids_ok e2 e3 hcs hP
    have hok2 : ∀ c ∈ cs, ∀ nd ∈ c, ndOk2 nd := fun c hc x hx => hok x (List.mem_cons_of_mem _ (List.mem_flatten.mpr ⟨c, hc, hx⟩))
    have hPr : Prs g fam_length h (5 * n) as (cs.map lenV) := Prs.of e4 e6 (fun q c hc hn2 => ih q c hn2 (by have := flat_mem hc; simp only [List.length_cons] at hl; omega) (hok2 c hc) (hkids c hc))
    have hv : lenV (nd :: cs.flatten) = lenA nd (cs.map lenV) := by unfold lenV; rw [val_node lenA 0 e2 hcs]
    rw [hv]
    refine l_len (d := 5 * (n + 1)) hG e5 (hok nd List.mem_cons_self) hPr (fun w hw => ?_) (ndC.len (a := a) (nd := nd) e4 e6 hl) (by omega)
    obtain ⟨c, hc, rfl⟩ := List.mem_map.mp hw
    obtain ⟨Q, hQ⟩ := hkids c hc
    have := len_ok n c (hcs c hc) (hok2 c hc) Q hQ
    omega
/-- length() of a node whose parts are all right -/
theorem n_lenC {n a : Nat} {nd : Nd} {cs : List (List Nd)} {as : List Nat} (hG : GKx g) (e2 : nd.2.2.1 = cs.length) (e4 : as.length = cs.length) (e5 : ndC h a nd as) (e6 : ∀ (i q : Nat) (c : List Nd), cs[i]? = some c → as[i]? = some q → NodeAt h n q c) (hl : (nd :: cs.flatten).length < 1000000) (hok : ∀ x ∈ nd :: cs.flatten, ndOk2 x) (hch : ∀ c ∈ cs, ∃ P : Pt, sem c = .ok P) : Kc g (fam_length nd.1) (5 * (n + 1)) 0 0 [.ref a] h (sR (some (vz (lenA nd (cs.map lenV) : Nat))) h) := by
  have hcs : ∀ c ∈ cs, TR n c := fun c hc => by
    obtain ⟨i, hi⟩ := List.getElem?_of_mem hc
    have hl2 := (List.getElem?_eq_some_iff.mp hi).1
    exact (e6 i _ c hi (List.getElem?_eq_getElem (by omega : i < as.length))).tree
  have hok2 : ∀ c ∈ cs, ∀ nd ∈ c, ndOk2 nd := fun c hc x hx => hok x (List.mem_cons_of_mem _ (List.mem_flatten.mpr ⟨c, hc, hx⟩))
  have hPr : Prs g fam_length h (5 * n) as (cs.map lenV) := Prs.of e4 e6 (fun q c hc hn2 => n_len hG n q c hn2 (by have := flat_mem hc; simp only [List.length_cons] at hl; omega) (hok2 c hc) (hch c hc))
  refine l_len (d := 5 * (n + 1)) hG e5 (hok nd List.mem_cons_self) hPr (fun w hw => ?_) (ndC.len (a := a) (nd := nd) e4 e6 hl) (by omega)
  obtain ⟨c, hc, rfl⟩ := List.mem_map.mp hw
  obtain ⟨Q, hQ⟩ := hch c hc
  have := len_ok n c (hcs c hc) (hok2 c hc) Q hQ
  omega
end N5S

/-! THE COMPONENT: nodes and depth of a tree (printed by gen) -/
section N2S
variable {g : GB} {M : MI} {d c k : Nat} {h : HM}
theorem NodeAt.cls {n a : Nat} {l : List Nd} (H : NodeAt h n a l) : ∃ fs, h a = some (.inr (nCi (rootK l), fs)) := by
  cases n with
  | zero => exact H.elim
  | succ n =>
    obtain ⟨nd, cs, as, rfl, e2, e3, e4, e5, e6⟩ := H
    exact e5.cls
theorem Prs.of {fam : Nat → MI} {W : List Nd → Nat} {n D : Nat} {as : List Nat} {cs : List (List Nd)} (hlen : as.length = cs.length) (hN : ∀ (i q : Nat) (c : List Nd), cs[i]? = some c → as[i]? = some q → NodeAt h n q c) (hK : ∀ (q : Nat) (c : List Nd), c ∈ cs → NodeAt h n q c → Kc g (fam (rootK c)) D 0 0 [.ref q] h (sR (some (vz (W c : Nat))) h)) : Prs g fam h D as (cs.map W) := by
  refine ⟨by rw [List.length_map, hlen], fun i q w hq hw => ?_⟩
  rw [List.getElem?_map] at hw
  cases hc : cs[i]? with
  | none => rw [hc] at hw; cases hw
  | some c =>
    rw [hc] at hw
    cases hw
    have hn := hN i q c hc hq
    exact ⟨rootK c, hn.cls, hK q c (List.mem_of_getElem? hc) hn⟩
theorem flat_len {cs : List (List Nd)} (hne : ∀ c ∈ cs, 1 ≤ c.length) : cs.length ≤ cs.flatten.length := by
  induction cs with
  | nil => exact Nat.le_refl _
  | cons c t ih =>
    have h1 := hne c List.mem_cons_self
    have h2 := ih (fun x hx => hne x (List.mem_cons_of_mem _ hx))
    simp only [List.flatten_cons, List.length_append, List.length_cons]; omega
theorem flat_mem {cs : List (List Nd)} {c : List Nd} (hc : c ∈ cs) : c.length ≤ cs.flatten.length := by
  induction cs with
  | nil => cases hc
  | cons d t ih =>
    simp only [List.flatten_cons, List.length_append]
    rcases List.mem_cons.mp hc with rfl | r
    · omega
    · have := ih r; omega
theorem len_fold {cs : List (List Nd)} (z : Nat) : (cs.map List.length).foldl (· + ·) z = z + cs.flatten.length := by
  induction cs generalizing z with
  | nil => rfl
  | cons c t ih => simp only [List.map_cons, List.foldl_cons, List.flatten_cons, List.length_append]; rw [ih]; omega
theorem ndC.len {a : Nat} {nd : Nd} {as : List Nat} {cs : List (List Nd)} {n : Nat} (e4 : as.length = cs.length) (e6 : ∀ (i q : Nat) (c : List Nd), cs[i]? = some c → as[i]? = some q → NodeAt h n q c) (hl : (nd :: cs.flatten).length < 1000000) : as.length < 1000000 := by
  have : cs.length ≤ cs.flatten.length := flat_len (fun c hc => by
    obtain ⟨i, hi⟩ := List.getElem?_of_mem hc
    have hl2 := (List.getElem?_eq_some_iff.mp hi).1
    have := (e6 i _ c hi (List.getElem?_eq_getElem (by omega : i < as.length))).tree.ne
    exact List.length_pos_iff.mpr this)
  simp only [List.length_cons] at hl
  omega
/-- nodes() -/
theorem n_nodes (hG : GKx g) : ∀ (n a : Nat) (l : List Nd), NodeAt h n a l → l.length < 1000000 → Kc g (fam_nodes (rootK l)) (5 * n) 0 0 [.ref a] h (sR (some (vz (l.length : Nat))) h) := by
  intro n
  induction n with
  | zero => intro a l H; exact H.elim
  | succ n ih =>
    intro a l H hl
    obtain ⟨nd, cs, as, rfl, e2, e3, e4, e5, e6⟩ := H
    have hP : Prs g fam_nodes h (5 * n) as (cs.map List.length) := Prs.of e4 e6 (fun q c hc hn => ih q c hn (by have := flat_mem hc; simp only [List.length_cons] at hl; omega))
    have r := l_nodes (d := 5 * (n + 1)) hG e5 hP (ndC.len (a := a) (nd := nd) e4 e6 hl) (by omega)
    rw [len_fold] at r
    rw [show (nd :: cs.flatten).length = 1 + cs.flatten.length by simp only [List.length_cons]; omega]
    have e : fam_nodes (rootK (nd :: cs.flatten)) = mX21_nodes := by
      show fam_nodes nd.1 = _
      obtain ⟨k, r⟩ := nd
      match k with
      | 0 | 1 | 2 | 3 | 4 | 5 | k + 6 => rfl
    rw [e]
    exact r
def depA (_ : Nd) (vs : List Nat) : Nat := 1 + vs.foldl max 0
def depV (l : List Nd) : Nat := val depA 0 l
theorem mx_le {ws : List Nat} {B : Nat} (hw : ∀ w ∈ ws, w ≤ B) : ∀ (z : Nat), z ≤ B → ws.foldl max z ≤ B := by
  induction ws with
  | nil => intro z hz; exact hz
  | cons w t ih => intro z hz; exact ih (fun x hx => hw x (List.mem_cons_of_mem _ hx)) _ (by have := hw w List.mem_cons_self; omega)
theorem dep_le : ∀ {n : Nat} {l : List Nd}, TR n l → depV l ≤ n := by
  intro n
  induction n with
  | zero => intro l h; exact h.elim
  | succ n ih =>
    intro l H
    obtain ⟨nd, cs, rfl, hc, hk, hcs⟩ := H
    unfold depV
    rw [val_node depA 0 hc hcs]
    unfold depA
    have := mx_le (ws := cs.map (val depA 0)) (B := n) (fun w hw => by obtain ⟨c, hc2, rfl⟩ := List.mem_map.mp hw; exact ih (hcs c hc2)) 0 (Nat.zero_le _)
    have e : (cs.map (val depA 0)).foldl max 0 ≤ n := this
    show 1 + (cs.map (val depA 0)).foldl max 0 ≤ n + 1
    omega
/-- depth() -/
theorem n_depth (hG : GKx g) : ∀ (n a : Nat) (l : List Nd), NodeAt h n a l → l.length < 1000000 → n < 100000 → Kc g (fam_depth (rootK l)) (5 * n) 0 0 [.ref a] h (sR (some (vz (depV l : Nat))) h) := by
  intro n
  induction n with
  | zero => intro a l H; exact H.elim
  | succ n ih =>
    intro a l H hl hn
    have hT := H.tree
    obtain ⟨nd, cs, as, rfl, e2, e3, e4, e5, e6⟩ := H
    have hcs : ∀ c ∈ cs, TR n c := fun c hc => by
      obtain ⟨i, hi⟩ := List.getElem?_of_mem hc
      have hl2 := (List.getElem?_eq_some_iff.mp hi).1
      exact (e6 i _ c hi (List.getElem?_eq_getElem (by omega : i < as.length))).tree
    have hP : Prs g fam_depth h (5 * n) as (cs.map depV) := Prs.of e4 e6 (fun q c hc hn2 => ih q c hn2 (by have := flat_mem hc; simp only [List.length_cons] at hl; omega) (by omega))
    have r := l_depth (d := 5 * (n + 1)) hG e5 hP (ndC.len (a := a) (nd := nd) e4 e6 hl) (by omega) (fun w hw => by obtain ⟨c, hc2, rfl⟩ := List.mem_map.mp hw; have := dep_le (hcs c hc2); omega)
    have e1 : depV (nd :: cs.flatten) = 1 + (cs.map depV).foldl max 0 := by unfold depV; rw [val_node depA 0 e2 hcs]; rfl
    rw [e1]
    have e : fam_depth (rootK (nd :: cs.flatten)) = mX21_depth := by
      show fam_depth nd.1 = _
      obtain ⟨k, r⟩ := nd
      match k with
      | 0 | 1 | 2 | 3 | 4 | 5 | k + 6 => rfl
    rw [e]
    exact r
end N2S

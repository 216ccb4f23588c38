/-! THE COMPONENT: the state of the class, one more command (printed by gen) -/
section X6S
variable {g : GB} {M : MI} {d c k : Nat} {h : HM}
section
variable {N : Nat} {B : Nat → Prop} {I h h' : HM} {own : Nat → Nat} {o : Nat} {p : Dp} {us : List Dp} {cl ud uv uh ib iv ic os ow : Nat} {sdv scv lev : Value} {cs : List Cm} {σ : Sp}
theorem SvW.le {N' : Nat} {x : Option Dn} (K : SvW g N I h own sdv scv x) (hN : N ≤ N') : SvW g N' I h own sdv scv x := by
  cases x with
  | none => exact K
  | some D =>
    obtain ⟨q, sl, cs2, k1, k2, k3, k4, k5, k6⟩ := K
    exact ⟨q, sl, cs2, k1, k2, k3, k4, k5, Nat.le_trans k6 hN⟩
theorem WXr.le {N' : Nat} (K : WXr g N B I h own o p us cl ud uv uh ib iv ic os ow sdv scv lev cs σ) (hN : N ≤ N') : WXr g N' B I h own o p us cl ud uv uh ib iv ic os ow sdv scv lev cs σ := by
  obtain ⟨a, b, c, ⟨d1, d2⟩, e, n, s, i, u, r⟩ := K
  exact ⟨a, b, c, ⟨d1, Nat.le_trans d2 hN⟩, e, n, s.le hN, i, u, r⟩
theorem WX.le {N' : Nat} (W : WX g N B h o σ) (hN : N ≤ N') : WX g N' B h o σ := by
  obtain ⟨I, own, p, us, cl, ud, uv, uh, ib, iv, ic, os, ow, sdv, scv, lev, cs, HO, WR⟩ := W
  exact ⟨I, own, p, us, cl, ud, uv, uh, ib, iv, ic, os, ow, sdv, scv, lev, cs, HO, WR.le hN⟩
/-- a label not yet used -/
def frL (ps : List Dp) : Nat := 10 + (ps.map (fun q => q.1)).sum
theorem frL_lt {ps : List Dp} {q : Dp} (hq : q ∈ ps) : q.1 < frL ps := by
  have key : ∀ (l : List Nat) (x : Nat), x ∈ l → x ≤ l.sum := by
    intro l
    induction l with
    | nil => intro x hx; cases hx
    | cons y l ih =>
      intro x hx
      rw [List.sum_cons]
      rcases List.mem_cons.mp hx with e | e
      · rw [e]; omega
      · have := ih x e; omega
  have := key _ _ (List.mem_map_of_mem (f := fun q : Dp => q.1) hq)
  unfold frL
  omega
/-- no command more: what is on top of the undo deque's bottom goes -/
theorem WXr.drop (K : WXr g N B I h own o p us cl ud uv uh ib iv ic os ow sdv scv lev cs σ) {u0 : Dp} {us' : List Dp} {uh' : Nat} (hu : us = u0 :: us') (F : Fr g h h' [ud, uv]) (hA : ADh g h' ud uv uh' (us'.map (fun q => q.2.1))) : WXr g N B I h' own o p us' cl ud uv uh' ib iv ic os ow sdv scv lev cs (σ.1, σ.2.1.tail, σ.2.2) := by
  obtain ⟨a, ⟨b1, b2, b3⟩, c, ⟨d1, d2⟩, ⟨e1, e2, e3, e4, e5, e6⟩, ⟨n1, n2⟩, s, i, u, r⟩ := K
  subst hu
  have key : ∀ m : Nat, m ≠ 3 → ∀ x ∈ [ud, uv], own x ≠ m := fun m hm x hx q => hm (by
    simp only [List.mem_cons, List.not_mem_nil, or_false] at hx
    rcases hx with rfl | rfl
    · rw [e2.1] at q; exact q.symm
    · rw [e2.2.1] at q; exact q.symm)
  have keyI : ∀ x ∈ [ud, uv], I x = none := fun x hx => by
    simp only [List.mem_cons, List.not_mem_nil, or_false] at hx
    rcases hx with rfl | rfl
    · exact e2.2.2.1
    · exact e2.2.2.2
  have G : Gw I h I h' := (Gw.refl b1).fr F (fun x hx => Or.inl (keyI x hx))
  have hp10 := n2 p List.mem_cons_self
  obtain ⟨D0, hDs⟩ : ∃ D0, σ.2.1 = D0 :: σ.2.1.tail := by
    cases q : σ.2.1 with
    | nil => rw [q] at e3; simp at e3
    | cons D0 t => exact ⟨D0, rfl⟩
  have hlen : us'.length = σ.2.1.tail.length := by rw [hDs] at e3; simpa using e3
  have hs9 : List.Sublist (p :: us') (p :: u0 :: us') := (List.sublist_cons_self u0 us').cons_cons p
  refine ⟨a, ⟨G.2.1, b2, fun x hx => ⟨(b3 x hx).1, F.1 x (b3 x hx).2.1, (b3 x hx).2.2⟩⟩, c.mv G F (key _ (by omega)) ownK.refl, ⟨d1.mv G F (key 2 (by decide)) ownK.refl, d2⟩, ⟨hA, e2, hlen, by rw [List.length_cons] at e4; omega, by rw [List.length_cons] at e5; omega, fun i q D h1 h2 => ?_⟩, ⟨?_, fun q hq => n2 q (hs9.subset hq)⟩, s.mv G F (fun x hx => ⟨key 4 (by decide) x hx, key 5 (by decide) x hx⟩) ownK.refl, i.mv G F (key 6 (by decide)) ownK.refl, u.mv G F keyI, r⟩
  · have h3 := e6 (i + 1) q D (by rw [List.getElem?_cons_succ]; exact h1) (by rw [hDs, List.getElem?_cons_succ]; exact h2)
    refine ⟨h3.1.mv G F (key _ (by have := n2 q (List.mem_cons_of_mem _ (List.mem_cons_of_mem _ (List.mem_of_getElem? h1))); omega)) ownK.refl, ?_⟩
    rw [← h3.2, List.length_cons]
    rw [List.length_cons] at e4
    rw [show cs.length - (us'.length + 1) + (i + 1) = cs.length - us'.length + i by omega]
  · exact List.Nodup.sublist (hs9.map (fun q => q.1)) n1
set_option maxHeartbeats 1600000 in
/-- one command more -/
theorem WXr.push {x0 : MO} (HO : h o = some x0) (K : WXr g N B I h own o p us cl ud uv uh ib iv ic os ow sdv scv lev cs σ) (hl7 : us.length ≤ 7) {C : Cm} {q st2 fo2 q2 cm : Nat} {mc mc0 : Int} {L : List (Nat × Nat)} {h2 h3 h4 h5 J : HM} (kL : LLh g h cl mc0 L) (hL0 : ∀ x ∈ cl :: L.map Prod.fst, own x = 2 ∧ I x = none) (hL1 : L.length = cs.length) (hL2 : ∀ (i q x : Nat) (C : Cm), L[i]? = some (q, x) → cs[i]? = some C → CmC g I x C ∧ cmOk C)
  (F1 : Fr g h h2 []) (KD : DnC g I h2 q st2 fo2 σ.1) (hz : ∀ x ∈ dnS q st2 fo2, h x = none) (F2 : Fr g h2 h3 [ud, uv]) (hA : ADh g h3 ud uv uh (us.map (fun q => q.2.1) ++ [q])) (F3 : Fr g h3 h4 (cl :: L.map Prod.fst)) (hq2 : h3 q2 = none) (hLL : LLh g h4 cl mc (L ++ [(q2, cm)])) (G4 : Gw I h4 J h5) (KD5 : DnC g J h5 p.2.1 p.2.2.1 p.2.2.2 (cmD C σ.1)) (F4 : Fr g h4 h5 (dnS p.2.1 p.2.2.1 p.2.2.2)) (hC : CmC g I cm C) (hok : cmOk C) : (∃ (own' : Nat → Nat), WXr g (N + 1) B J h5 own' o p (us ++ [(frL (p :: us), q, st2, fo2)]) cl ud uv uh ib iv ic os ow sdv scv lev (cs ++ [C]) (cmD C σ.1, σ.2.1 ++ [σ.1], σ.2.2)) ∧ ∃ S, Fr g h h5 S ∧ (∀ x ∈ S, ¬ B x) ∧ o ∉ S := by
  obtain ⟨a, ⟨b1, b2, b3⟩, c, ⟨d1, d2⟩, ⟨e1, e2, e3, e4, e5, e6⟩, ⟨n1, n2⟩, s, i, u, r⟩ := K
  obtain ⟨-, -, -, -, -, -, d3⟩ := id d1
  have hp10 := n2 p List.mem_cons_self
  let own' : Nat → Nat := fun x => if x ∈ dnS q st2 fo2 then frL (p :: us) else if x = q2 then 2 else own x
  have ho : ownK h own own' := fun x hx => by
    show (if x ∈ dnS q st2 fo2 then frL (p :: us) else if x = q2 then 2 else own x) = own x
    rw [if_neg (fun e => hx (hz x e)), if_neg (fun e => by rw [e] at hx; exact F2.1 _ (F1.1 _ hx) hq2)]
  have hoq : ∀ x ∈ dnS q st2 fo2, own' x = frL (p :: us) := fun x hx => if_pos hx
  have ho2 : own' q2 = 2 := by
    show (if q2 ∈ dnS q st2 fo2 then frL (p :: us) else if q2 = q2 then 2 else own q2) = 2
    rw [if_neg (fun e => F2.1 _ (KD.nz e) hq2), if_pos rfl]
  have hS2 : ∀ x ∈ [ud, uv], own x = 3 ∧ I x = none ∧ h x ≠ none := fun x hx => by
    simp only [List.mem_cons, List.not_mem_nil, or_false] at hx
    rcases hx with rfl | rfl
    · exact ⟨e2.1, e2.2.2.1, e1.nz.1⟩
    · exact ⟨e2.2.1, e2.2.2.2, e1.nz.2⟩
  have hS4 : ∀ x ∈ dnS p.2.1 p.2.2.1 p.2.2.2, own x = p.1 ∧ I x = none ∧ h x ≠ none := fun x hx => ⟨(c.2 x hx).1, (c.2 x hx).2, c.1.nz hx⟩
  have hI3 : Sub I h3 := (b1.fr0 F1).fr F2 (fun x hx => Or.inl (hS2 x hx).2.1)
  have hI4 : Sub I h4 := hI3.fr F3 (fun x hx => Or.inl (hL0 x hx).2)
  have hIq2 : I q2 = none := by
    cases e : I q2 with
    | none => rfl
    | some y => rw [hI3 _ _ e] at hq2; cases hq2
  let SS : List Nat := [ud, uv] ++ (cl :: L.map Prod.fst) ++ dnS p.2.1 p.2.2.1 p.2.2.2
  have FT4 : Fr g h h4 SS := ((F1.more (S' := SS) (fun x hx => by cases hx)).call F2 (fun x hx => Or.inl (List.mem_append_left _ (List.mem_append_left _ hx)))).call F3 (fun x hx => Or.inl (List.mem_append_left _ (List.mem_append_right _ hx)))
  have FT : Fr g h h5 SS := FT4.call F4 (fun x hx => Or.inl (List.mem_append_right _ hx))
  have hSS : ∀ x ∈ SS, (own x = 2 ∨ own x = 3 ∨ own x = p.1) ∧ I x = none := fun x hx => by
    rcases List.mem_append.mp hx with hx | hx
    · rcases List.mem_append.mp hx with hx | hx
      · exact ⟨Or.inr (Or.inl (hS2 x hx).1), (hS2 x hx).2.1⟩
      · exact ⟨Or.inl (hL0 x hx).1, (hL0 x hx).2⟩
    · exact ⟨Or.inr (Or.inr (hS4 x hx).1), (hS4 x hx).2.1⟩
  have key : ∀ m : Nat, m ≠ 2 → m ≠ 3 → m ≠ p.1 → ∀ x ∈ SS, own x ≠ m := fun m h1 h2 h3 x hx e => by
    rcases (hSS x hx).1 with q | q | q
    · exact h1 (e.symm.trans q)
    · exact h2 (e.symm.trans q)
    · exact h3 (e.symm.trans q)
  have keyI : ∀ x ∈ SS, I x = none := fun x hx => (hSS x hx).2
  have G04 : Gw I h I h4 := (Gw.refl b1).fr FT4 (fun x hx => Or.inl (keyI x hx))
  have G : Gw I h J h5 := G04.trans FT4 G4
  have KD4 : DnC g I h4 q st2 fo2 σ.1 := (KD.fr F2 (fun x hx e => (hS2 x hx).2.2 (hz x e))).fr F3 (fun x hx e => kL.nz hx (hz x e))
  have hlt : ∀ r ∈ p :: us, r.1 < frL (p :: us) := fun r hr => frL_lt hr
  have KDn : DnW g J h5 own' (frL (p :: us), q, st2, fo2) σ.1 := ⟨(KD4.fr F4 (fun x hx e => (hS4 x hx).2.2 (hz x e))).sub G4.1, fun x hx => ⟨hoq x hx, G4.nn (KD4.nz hx) (by
    cases e : I x with
    | none => rfl
    | some y => have := b1 _ _ e; rw [hz x hx] at this; cases this)⟩⟩
  have hnz4 : ∀ x : Nat, h x ≠ none → h4 x ≠ none := fun x hx => FT4.1 x hx
  have hcl : h cl ≠ none := kL.nz List.mem_cons_self
  have hL5 : ∀ x ∈ dnS p.2.1 p.2.2.1 p.2.2.2, x ≠ cl ∧ x ∉ (L ++ [(q2, cm)]).map Prod.fst := fun x hx => by
    have h1 := (hS4 x hx).1
    refine ⟨fun e => ?_, fun e => ?_⟩
    · have := (hL0 cl List.mem_cons_self).1; rw [← e] at this; omega
    · rw [List.map_append] at e
      rcases List.mem_append.mp e with e | e
      · have := (hL0 x (List.mem_cons_of_mem _ e)).1; omega
      · have e9 : x = q2 := by simpa using e
        have h2 := ho x (hS4 x hx).2.2
        rw [e9, ho2] at h2
        rw [e9] at h1
        omega
  have hd1 : (cmD C σ.1).1 = σ.1.1 := cmD_dim C σ.1
  refine ⟨⟨own', ⟨a.1, (ho o (by rw [HO]; exact fun q => by cases q)).trans a.2.1, G.nn (by rw [HO]; exact fun q => by cases q) a.2.2⟩, ⟨G.2.1, G.cap b2, fun x hx => ⟨(ho x (b3 x hx).2.1).trans (b3 x hx).1, FT.1 x (b3 x hx).2.1, G.nn (b3 x hx).2.1 (b3 x hx).2.2⟩⟩, ⟨KD5, fun x hx => ⟨(ho x (hS4 x hx).2.2).trans (hS4 x hx).1, G.nn (hS4 x hx).2.2 (hS4 x hx).2.1⟩⟩, ⟨⟨mc, L ++ [(q2, cm)], hLL.fr F4 hL5, ?_, ?_, ?_, ?_⟩, ?_⟩, ⟨?_, ⟨(ho ud e1.nz.1).trans e2.1, (ho uv e1.nz.2).trans e2.2.1, G.nn e1.nz.1 e2.2.2.1, G.nn e1.nz.2 e2.2.2.2⟩, ?_, ?_, ?_, ?_⟩, ⟨?_, ?_⟩, (s.le (Nat.le_succ N)).mv G FT (fun x hx => ⟨key 4 (by decide) (by decide) (by omega) x hx, key 5 (by decide) (by decide) (by omega) x hx⟩) ho, i.mv G FT (key 6 (by decide) (by decide) (by omega)) ho, u.mv G FT keyI, r.mv G.1⟩, SS, FT, ?_, ?_⟩
  · intro x hx
    rw [List.map_append, ← List.cons_append] at hx
    rcases List.mem_append.mp hx with e | e
    · exact ⟨(ho x (kL.nz e)).trans (hL0 x e).1, G.nn (kL.nz e) (hL0 x e).2⟩
    · have e9 : x = q2 := by simpa using e
      rw [e9]
      exact ⟨ho2, G4.nn (hLL.nz (by rw [List.map_append]; exact List.mem_cons_of_mem _ (List.mem_append_right _ (by simp)))) hIq2⟩
  · rw [List.length_append, List.length_append, hL1]; rfl
  · intro j q9 x9 C9 g1 g2
    rcases Nat.lt_or_ge j L.length with q | q
    · rw [List.getElem?_append_left q] at g1
      rw [List.getElem?_append_left (by omega)] at g2
      exact ⟨(hL2 j q9 x9 C9 g1 g2).1.sub G.1, (hL2 j q9 x9 C9 g1 g2).2⟩
    · rw [List.getElem?_append_right q] at g1
      rw [List.getElem?_append_right (by omega)] at g2
      have e9 : j - L.length = 0 := by
        have := lt_of_getE g1
        simp at this; omega
      rw [e9] at g1
      rw [← hL1, e9] at g2
      simp only [List.getElem?_cons_zero, Option.some.injEq] at g1 g2
      cases g1
      cases g2
      exact ⟨hC.sub G.1, hok⟩
  · show rpl (cmD C σ.1).1 (cs ++ [C]) = cmD C σ.1
    rw [hd1, rpl_snoc, d3]
  · rw [List.length_append]; exact Nat.succ_le_succ d2
  · have h1 : ud ∉ cl :: L.map Prod.fst := fun e => by have := (hL0 ud e).1; rw [e2.1] at this; cases this
    have h2 : uv ∉ cl :: L.map Prod.fst := fun e => by have := (hL0 uv e).1; rw [e2.2.1] at this; cases this
    have h3 : ud ∉ dnS p.2.1 p.2.2.1 p.2.2.2 := fun e => by have := (hS4 ud e).1; rw [e2.1] at this; omega
    have h4 : uv ∉ dnS p.2.1 p.2.2.1 p.2.2.2 := fun e => by have := (hS4 uv e).1; rw [e2.2.1] at this; omega
    rw [List.map_append]
    exact (hA.fr F3 h1 h2).fr F4 h3 h4
  · rw [List.length_append, List.length_append, e3]; rfl
  · rw [List.length_append, List.length_append]; exact Nat.succ_le_succ e4
  · rw [List.length_append]; exact Nat.succ_le_succ hl7
  · intro j q9 D9 g1 g2
    show _ ∧ rpl (cmD C σ.1).1 _ = D9
    rw [hd1, List.length_append, List.length_append, List.length_singleton, List.length_singleton]
    rcases Nat.lt_or_ge j us.length with q | q
    · rw [List.getElem?_append_left q] at g1
      rw [List.getElem?_append_left (by omega)] at g2
      have h1 := e6 j q9 D9 g1 g2
      have h2 := n2 q9 (List.mem_cons_of_mem _ (List.mem_of_getElem? g1))
      have h3 : p.1 ≠ q9.1 := fun e => by
        have := (List.nodup_cons.mp n1).1
        exact this (by show p.1 ∈ _; rw [e]; exact List.mem_map_of_mem (List.mem_of_getElem? g1))
      refine ⟨h1.1.mv G FT (key _ (by omega) (by omega) (fun e => h3 e.symm)) ho, ?_⟩
      rw [show cs.length + 1 - (us.length + 1) + j = cs.length - us.length + j by omega, List.take_append_of_le_length (by omega)]
      exact h1.2
    · rw [List.getElem?_append_right q] at g1
      rw [List.getElem?_append_right (by omega)] at g2
      have e9 : j - us.length = 0 := by
        have := lt_of_getE g1
        simp at this; omega
      rw [e9] at g1
      rw [← e3, e9] at g2
      simp only [List.getElem?_cons_zero, Option.some.injEq] at g1 g2
      cases g1
      cases g2
      refine ⟨KDn, ?_⟩
      rw [show cs.length + 1 - (us.length + 1) + j = cs.length by omega, List.take_append_of_le_length (Nat.le_refl _), List.take_length]
      exact d3
  · rw [← List.cons_append, List.map_append]
    refine List.nodup_append.mpr ⟨n1, by simp, fun x hx y hy e => ?_⟩
    obtain ⟨r9, hr, rfl⟩ := List.mem_map.mp hx
    have := hlt r9 hr
    simp at hy
    omega
  · intro r9 hr
    rw [← List.cons_append] at hr
    rcases List.mem_append.mp hr with e | e
    · exact n2 r9 e
    · rw [List.mem_singleton.mp e]
      show 10 ≤ frL (p :: us)
      unfold frL; omega
  · intro x hx e
    have := (b3 x e).1
    rcases (hSS x hx).1 with q | q | q <;> omega
  · intro hx
    rcases (hSS o hx).1 with q | q | q <;> omega
end
end X6S

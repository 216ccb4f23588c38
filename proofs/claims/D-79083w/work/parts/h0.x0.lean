/-! THE COMPONENT: the state of the class (printed by gen) -/
section X0S
variable {g : GB} {M : MI} {d c k : Nat} {h : HM}
/-- what the commands come to -/
def rpl (c : Nat × Nat) (cs : List Cm) : Dn := cs.foldl (fun D C => cmD C D) (dn0 c.1 c.2)
theorem rpl_snoc (c : Nat × Nat) (cs : List Cm) (C : Cm) : rpl c (cs ++ [C]) = cmD C (rpl c cs) := by unfold rpl; rw [List.foldl_append]; rfl
theorem cmD_dim (C : Cm) (D : Dn) : (cmD C D).1 = D.1 := by unfold cmD; split; · rfl
                                                            split <;> rfl
/-- a dance's cells: its owner, itself, its starts, its formations -/
abbrev Dp : Type := Nat × Nat × Nat × Nat
def DnW (g : GB) (I h : HM) (own : Nat → Nat) (p : Dp) (D : Dn) : Prop := DnC g I h p.2.1 p.2.2.1 p.2.2.2 D ∧ ∀ x ∈ dnS p.2.1 p.2.2.1 p.2.2.2, own x = p.1 ∧ I x = none
/-- the list of commands -/
def CsW (g : GB) (I h : HM) (own : Nat → Nat) (r cl : Nat) (D : Dn) (cs : List Cm) : Prop := ∃ (mc : Int) (L : List (Nat × Nat)), LLh g h cl mc L ∧ (∀ x ∈ cl :: L.map Prod.fst, own x = r ∧ I x = none) ∧ L.length = cs.length ∧ (∀ (i q x : Nat) (C : Cm), L[i]? = some (q, x) → cs[i]? = some C → CmC g I x C ∧ cmOk C) ∧ rpl D.1 cs = D
/-- the dances that can be had again -/
def UdW (g : GB) (I h : HM) (own : Nat → Nat) (ud uv uh : Nat) (us : List Dp) (Ds : List Dn) (c : Nat × Nat) (cs : List Cm) : Prop := ADh g h ud uv uh (us.map (fun q => q.2.1)) ∧ (own ud = 3 ∧ own uv = 3 ∧ I ud = none ∧ I uv = none) ∧ us.length = Ds.length ∧ us.length ≤ cs.length ∧ us.length ≤ 8 ∧ ∀ (i : Nat) (q : Dp) (D : Dn), us[i]? = some q → Ds[i]? = some D → DnW g I h own q D ∧ rpl c (cs.take (cs.length - us.length + i)) = D
/-- the saved dance and commands -/
def SvW (g : GB) (N : Nat) (I h : HM) (own : Nat → Nat) (sdv scv : Value) (x : Option Dn) : Prop := match x with
  | none => sdv = .null ∧ (scv = .null ∨ ∃ q : Nat, scv = .ref q)
  | some D => ∃ (q : Dp) (sl : Nat) (cs2 : List Cm), sdv = .ref q.2.1 ∧ scv = .ref sl ∧ DnW g I h own q D ∧ q.1 = 4 ∧ CsW g I h own 5 sl D cs2 ∧ cs2.length ≤ N
def InW (g : GB) (I h : HM) (own : Nat → Nat) (ib iv ic : Nat) (t : List Nat) : Prop := SBh g h ib iv ic t ∧ (own ib = 6 ∧ own iv = 6 ∧ I ib = none ∧ I iv = none) ∧ t.length ≤ 100 ∧ (∀ u ∈ t, u < 128) ∧ ic ≤ 1000
def OuW (g : GB) (I h : HM) (os ow : Nat) (t : List Nat) : Prop := STh h os ow t ∧ (gB g ≤ os → I os ≠ none) ∧ (gB g ≤ ow → I ow ≠ none)
def ErW (I : HM) (lev : Value) (e : Int) : Prop := (e = -1 ∧ lev = .null) ∨ (0 ≤ e ∧ ∃ q : Nat, lev = .ref q ∧ I q = some (.inr (6, [.null, .null, .null, .null, .null, vz 0, vz (e)])))
section
variable {I h J h' : HM} {own own' : Nat → Nat} {S : List Nat} {D : Dn}
/-- labels of what lies in h are kept -/
def ownK (h : HM) (own own' : Nat → Nat) : Prop := ∀ x : Nat, h x ≠ none → own' x = own x
theorem ownK.refl : ownK h own own := fun _ _ => rfl
theorem DnC.nz {a st fo x : Nat} (K : DnC g I h a st fo D) (hx : x ∈ dnS a st fo) : h x ≠ none := by
  obtain ⟨A, B, pv, sv, KD, -⟩ := K
  exact KD.some hx
theorem DnW.mv {p : Dp} (K : DnW g I h own p D) (G : Gw I h J h') (F : Fr g h h' S) (hS : ∀ x ∈ S, own x ≠ p.1) (ho : ownK h own own') : DnW g J h' own' p D :=
  ⟨(K.1.fr F (fun x hx q => hS x hx (K.2 x q).1)).sub G.1, fun x hx => ⟨(ho x (K.1.nz hx)).trans (K.2 x hx).1, G.nn (K.1.nz hx) (K.2 x hx).2⟩⟩
theorem LLh.nz {a : Nat} {mc : Int} {L : List (Nat × Nat)} (H : LLh g h a mc L) {x : Nat} (hx : x ∈ a :: L.map Prod.fst) : h x ≠ none := by
  rcases List.mem_cons.mp hx with e | e
  · rw [e, H.1]; exact fun q => by cases q
  · obtain ⟨y, n, pv, e2⟩ := H.2.2.1.mem e
    rw [e2]; exact fun q => by cases q
theorem CsW.mv {r cl : Nat} {cs : List Cm} (K : CsW g I h own r cl D cs) (G : Gw I h J h') (F : Fr g h h' S) (hS : ∀ x ∈ S, own x ≠ r) (ho : ownK h own own') : CsW g J h' own' r cl D cs := by
  obtain ⟨mc, L, k1, k2, k3, k4, k5⟩ := K
  exact ⟨mc, L, k1.fr F (fun x hx => ⟨fun e => hS x hx (by rw [e]; exact (k2 cl List.mem_cons_self).1), fun e => hS x hx (k2 x (List.mem_cons_of_mem _ e)).1⟩), fun x hx => ⟨(ho x (k1.nz hx)).trans (k2 x hx).1, G.nn (k1.nz hx) (k2 x hx).2⟩, k3, fun i q x C h1 h2 => ⟨(k4 i q x C h1 h2).1.sub G.1, (k4 i q x C h1 h2).2⟩, k5⟩
theorem ADh.nz {a v hd : Nat} {l : List Nat} (H : ADh g h a v hd l) : h a ≠ none ∧ h v ≠ none := by
  obtain ⟨e1, -, -, -, -, f, e2, -⟩ := H
  exact ⟨(fun q => by rw [e1] at q; cases q), (fun q => by rw [e2] at q; cases q)⟩
theorem UdW.mv {ud uv uh : Nat} {us : List Dp} {Ds : List Dn} {c : Nat × Nat} {cs : List Cm} (K : UdW g I h own ud uv uh us Ds c cs) (G : Gw I h J h') (F : Fr g h h' S) (hS : ∀ x ∈ S, own x ≠ 3 ∧ ∀ q ∈ us, own x ≠ q.1) (ho : ownK h own own') : UdW g J h' own' ud uv uh us Ds c cs := by
  obtain ⟨k1, ⟨a1, a2, a3, a4⟩, k3, k4, k5, k6⟩ := K
  exact ⟨k1.fr F (fun q => (hS _ q).1 a1) (fun q => (hS _ q).1 a2), ⟨(ho _ k1.nz.1).trans a1, (ho _ k1.nz.2).trans a2, G.nn k1.nz.1 a3, G.nn k1.nz.2 a4⟩, k3, k4, k5, fun i q D h1 h2 => ⟨(k6 i q D h1 h2).1.mv G F (fun x hx => (hS x hx).2 q (List.mem_of_getElem? h1)) ho, (k6 i q D h1 h2).2⟩⟩
theorem SvW.mv {N : Nat} {sdv scv : Value} {x : Option Dn} (K : SvW g N I h own sdv scv x) (G : Gw I h J h') (F : Fr g h h' S) (hS : ∀ x ∈ S, own x ≠ 4 ∧ own x ≠ 5) (ho : ownK h own own') : SvW g N J h' own' sdv scv x := by
  cases x with
  | none => exact K
  | some D =>
    obtain ⟨q, sl, cs2, k1, k2, k3, k4, k5, k6⟩ := K
    exact ⟨q, sl, cs2, k1, k2, k3.mv G F (fun x hx => by rw [k4]; exact (hS x hx).1) ho, k4, k5.mv G F (fun x hx => (hS x hx).2) ho, k6⟩
theorem SBh.nz {a v cap : Nat} {t : List Nat} (H : SBh g h a v cap t) : h a ≠ none ∧ h v ≠ none := by
  obtain ⟨A, e1, -, e2, -⟩ := H
  exact ⟨(fun q => by rw [e1] at q; cases q), (fun q => by rw [e2] at q; cases q)⟩
theorem InW.mv {ib iv ic : Nat} {t : List Nat} (K : InW g I h own ib iv ic t) (G : Gw I h J h') (F : Fr g h h' S) (hS : ∀ x ∈ S, own x ≠ 6) (ho : ownK h own own') : InW g J h' own' ib iv ic t := by
  obtain ⟨k1, ⟨a1, a2, a3, a4⟩, k3⟩ := K
  exact ⟨k1.fr F (fun q => hS _ q a1) (fun q => hS _ q a2), ⟨(ho _ k1.nz.1).trans a1, (ho _ k1.nz.2).trans a2, G.nn k1.nz.1 a3, G.nn k1.nz.2 a4⟩, k3⟩
theorem OuW.mv {os ow : Nat} {t : List Nat} (K : OuW g I h os ow t) (G : Gw I h J h') (F : Fr g h h' S) (hS : ∀ x ∈ S, I x = none) : OuW g J h' os ow t := by
  obtain ⟨k1, k2, k3⟩ := K
  exact ⟨k1.fr F (fun b q => k2 b (hS _ q)) (fun b q => k3 b (hS _ q)), fun b e => k2 b (by cases q : I os with | none => rfl | some y => rw [G.1 _ _ q] at e; cases e), fun b e => k3 b (by cases q : I ow with | none => rfl | some y => rw [G.1 _ _ q] at e; cases e)⟩
theorem ErW.mv {lev : Value} {e : Int} (K : ErW I lev e) (hS : Sub I J) : ErW J lev e := K.imp id (fun ⟨a, q, b, c⟩ => ⟨a, q, b, hS _ _ c⟩)
end
/-- everything but the object itself -/
def WXr (g : GB) (N : Nat) (B : Nat → Prop) (I h : HM) (own : Nat → Nat) (o : Nat) (p : Dp) (us : List Dp) (cl ud uv uh ib iv ic os ow : Nat) (sdv scv lev : Value) (cs : List Cm) (σ : Sp) : Prop :=
  (gB g ≤ o ∧ own o = 1 ∧ I o = none) ∧ (Sub I h ∧ CapI I ∧ ∀ x, B x → own x = 0 ∧ h x ≠ none ∧ I x = none) ∧ DnW g I h own p σ.1 ∧ (CsW g I h own 2 cl σ.1 cs ∧ cs.length ≤ N) ∧ UdW g I h own ud uv uh us σ.2.1 σ.1.1 cs ∧ (((p :: us).map (fun q => q.1)).Nodup ∧ ∀ q ∈ p :: us, 10 ≤ q.1) ∧ SvW g N I h own sdv scv σ.2.2.1 ∧ InW g I h own ib iv ic σ.2.2.2.1.1 ∧ OuW g I h os ow σ.2.2.2.1.2 ∧ ErW I lev σ.2.2.2.2.2.2
/-- the object o holds the state σ; nothing of it lies at B -/
def WX (g : GB) (N : Nat) (B : Nat → Prop) (h : HM) (o : Nat) (σ : Sp) : Prop := ∃ (I : HM) (own : Nat → Nat) (p : Dp) (us : List Dp) (cl ud uv uh ib iv ic os ow : Nat) (sdv scv lev : Value) (cs : List Cm), h o = some (.inr (0, [.ref p.2.1, .ref cl, .ref ud, sdv, scv, .ref ib, .ref os, lev, vz σ.2.2.2.2.2.1, vz σ.2.2.2.2.1])) ∧ WXr g N B I h own o p us cl ud uv uh ib iv ic os ow sdv scv lev cs σ
section
variable {N : Nat} {B : Nat → Prop} {I h h' : HM} {own : Nat → Nat} {o : Nat} {p : Dp} {us : List Dp} {cl ud uv uh ib iv ic os ow : Nat} {sdv scv lev : Value} {cs : List Cm} {σ : Sp}
/-- only the object itself is written -/
theorem WXr.self (K : WXr g N B I h own o p us cl ud uv uh ib iv ic os ow sdv scv lev cs σ) (F : Fr g h h' [o]) : WXr g N B I h' own o p us cl ud uv uh ib iv ic os ow sdv scv lev cs σ := by
  obtain ⟨a, ⟨b1, b2, b3⟩, c, ⟨d1, d2⟩, e, ⟨n1, n2⟩, s, i, u, r⟩ := K
  have G : Gw I h I h' := (Gw.refl b1).fr F (fun x hx => Or.inl (by rw [List.mem_singleton.mp hx]; exact a.2.2))
  have key : ∀ m : Nat, m ≠ 1 → ∀ x ∈ [o], own x ≠ m := fun m hm x hx q => hm (by rw [List.mem_singleton.mp hx, a.2.1] at q; exact q.symm)
  exact ⟨a, ⟨G.2.1, b2, fun x hx => ⟨(b3 x hx).1, F.1 x (b3 x hx).2.1, (b3 x hx).2.2⟩⟩, c.mv G F (key _ (by have := n2 p List.mem_cons_self; omega)) ownK.refl, ⟨d1.mv G F (key 2 (by decide)) ownK.refl, d2⟩, e.mv G F (fun x hx => ⟨key 3 (by decide) x hx, fun q hq => key _ (by have := n2 q (List.mem_cons_of_mem _ hq); omega) x hx⟩) ownK.refl, ⟨n1, n2⟩, s.mv G F (fun x hx => ⟨key 4 (by decide) x hx, key 5 (by decide) x hx⟩) ownK.refl, i.mv G F (key 6 (by decide)) ownK.refl, u.mv G F (fun x hx => by rw [List.mem_singleton.mp hx]; exact a.2.2), r⟩
/-- nothing old is written -/
theorem WXr.new (K : WXr g N B I h own o p us cl ud uv uh ib iv ic os ow sdv scv lev cs σ) (F : Fr g h h' []) : WXr g N B I h' own o p us cl ud uv uh ib iv ic os ow sdv scv lev cs σ := K.self (F.more (fun x hx => by cases hx))
theorem WXr.nB (K : WXr g N B I h own o p us cl ud uv uh ib iv ic os ow sdv scv lev cs σ) : ¬ B o := fun q => by have := (K.2.1.2.2 o q).1; rw [K.1.2.1] at this; cases this
end
/-- how a public method ends -/
def XQ (g : GB) (N : Nat) (B : Nat → Prop) (h : HM) (o : Nat) (C : Int → String) (r : Rs) : RS → HM → Prop := fun res h' => WX g N B h' o r.2.2 ∧ (∃ S : List Nat, Fr g h h' S ∧ ∀ x ∈ S, ¬ B x) ∧ (if r.1 = 0 then res = .inl (some (vz r.2.1)) else ∃ q : Nat, res = .inr (C r.1, q))
theorem XQ.ok {N : Nat} {B : Nat → Prop} {h h' : HM} {o : Nat} {C : Int → String} {v : Int} {σ' : Sp} {S : List Nat} (W : WX g N B h' o σ') (F : Fr g h h' S) (hS : ∀ x ∈ S, ¬ B x) : XQ g N B h o C (0, v, σ') (.inl (some (vz v))) h' := ⟨W, ⟨S, F, hS⟩, rfl⟩
theorem XQ.no {N : Nat} {B : Nat → Prop} {h h' : HM} {o : Nat} {C : Int → String} {m v : Int} {σ' : Sp} {S : List Nat} {q : Nat} {E : String} (hm : m ≠ 0) (hE : C m = E) (W : WX g N B h' o σ') (F : Fr g h h' S) (hS : ∀ x ∈ S, ¬ B x) : XQ g N B h o C (m, v, σ') (.inr (E, q)) h' := ⟨W, ⟨S, F, hS⟩, by rw [if_neg hm]; exact ⟨q, by rw [hE]⟩⟩
end X0S

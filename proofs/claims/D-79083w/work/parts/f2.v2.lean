/-! THE COMPONENT: what the parser builds (printed by gen) -/
section V2S
variable {g : GB} {M : MI} {d c k : Nat} {h : HM}
/-- how a method of the parser ends -/
def synE (g : GB) (h : HM) (ps tb ne e : Nat) : RS → HM → Prop := fun r h' => ∃ q p' : Nat, r = .inr ("DanceNotation$SyntaxException", q) ∧ h q = none ∧ h' q = some (.inr (6, [.null, .null, .null, .null, .null, vz 0, vz ((e : Nat) : Int)])) ∧ ParC h' ps tb p' ne ∧ Fr g h h' [ps]
def nodR (m : Nat) (rs : List (List Nd)) : List Nd := if m = 2 then layR rs else if m = 3 then serR rs else rs.flatten
def PrQ (g : GB) (I h : HM) (ps tb ne m : Nat) (x : PR) : RS → HM → Prop := match x with
  | .error e => synE g h ps tb ne e
  | .ok r => fun v h' => ∃ (a n : Nat) (J : HM), v = .inl (some (.ref a)) ∧ Gw I h J h' ∧ NodeAt J n a (tidy (nodR m r.1)) ∧ ParC h' ps tb r.2 ne ∧ Fr g h h' [ps]
/-- while it reads: the list q1 holds rs, J holds what was made -/
def LsS (g : GB) (I h0 : HM) (ps tb tv cap ne : Nat) (t : List Nat) (J : HM) (pos q1 : Nat) (rs : List Nat) (h : HM) : Prop :=
  ParC h ps tb pos ne ∧ SBh g h tb tv cap t ∧ Gw I h0 J h ∧ Fr g h0 h [ps] ∧ (J ps = none ∧ J q1 = none ∧ h0 q1 = none) ∧ ∃ (v c1 : Nat) (mc : Int), ALh g h q1 v c1 mc rs ∧ (v < gB g ∨ (h0 v = none ∧ J v = none))
section
variable {I h0 J : HM} {ps tb tv cap ne pos q1 : Nat} {t rs : List Nat}
theorem LsS.part {J' h' : HM} {pos' : Nat} (L : LsS g I h0 ps tb tv cap ne t J pos q1 rs h) (G2 : Gw J h J' h') (hp : ParC h' ps tb pos' ne) (f : Fr g h h' [ps]) : LsS g I h0 ps tb tv cap ne t J' pos' q1 rs h' := by
  obtain ⟨hP, HT, G, F, ⟨j1, j2, z1⟩, v, c1, mc, HA, hv⟩ := L
  obtain ⟨TA, t1, t2, t3, t4, -⟩ := id HT
  obtain ⟨fq, a3, -⟩ := id HA.2.2.1
  have e1 : tb ≠ ps := ne_of t1 hP (by simp)
  have e2 : tv ≠ ps := ne_of t3 hP (by simp)
  have e3 : q1 ≠ ps := ne_of HA.1 hP (by simp)
  have e4 : v ≠ ps := ne_of a3 hP (by simp)
  have n1 : h ps ≠ none := by rw [show h ps = _ from hP]; exact fun q => by cases q
  have n2 : h q1 ≠ none := by rw [HA.1]; exact fun q => by cases q
  have n3 : h v ≠ none := by rw [a3]; exact fun q => by cases q
  exact ⟨hp, HT.fr f (fun q => e1 (List.mem_singleton.mp q)) (fun q => e2 (List.mem_singleton.mp q)), G.trans F G2, F.call f (fun x hx => Or.inl hx), ⟨G2.nn n1 j1, G2.nn n2 j2, z1⟩, v, c1, mc, HA.fr f (fun q => e3 (List.mem_singleton.mp q)) (fun _ q => e4 (List.mem_singleton.mp q)), hv.imp id (fun e => ⟨e.1, G2.nn n3 e.2⟩)⟩
theorem LsS.take {h' : HM} {pos' : Nat} (L : LsS g I h0 ps tb tv cap ne t J pos q1 rs h) (hp : ParC h' ps tb pos' ne) (f : Fr g h h' [ps]) : LsS g I h0 ps tb tv cap ne t J pos' q1 rs h' :=
  L.part ((Gw.refl L.2.2.1.2.1).fr f (fun x hx => Or.inl (by rw [List.mem_singleton.mp hx]; exact L.2.2.2.2.1.1))) hp f
theorem LsS.scr {h' : HM} {S : List Nat} (L : LsS g I h0 ps tb tv cap ne t J pos q1 rs h) (f : Fr g h h' S) (hS : ∀ x : Nat, x ∈ S → J x = none ∧ h0 x = none ∧ (h x = none ∨ ∃ y, h x = some (.inl (0, y)))) : LsS g I h0 ps tb tv cap ne t J pos q1 rs h' := by
  obtain ⟨hP, HT, G, F, j, v, c1, mc, HA, hv⟩ := L
  obtain ⟨TA, t1, t2, t3, t4, -⟩ := id HT
  obtain ⟨fq, a3, -⟩ := id HA.2.2.1
  have key : ∀ (x : Nat) (e : MO), h x = some e → (∀ y, e ≠ .inl (0, y)) → x ∉ S := fun x e hx he hm => by
    rcases (hS x hm).2.2 with q | ⟨y, q⟩
    · rw [q] at hx; cases hx
    · rw [q] at hx; exact he y (Option.some.inj hx).symm
  exact ⟨f.keep hP (key _ _ hP (by simp)), HT.fr f (key _ _ t1 (by simp)) (key _ _ t3 (by simp)), G.fr f (fun x hx => Or.inl (hS x hx).1), F.call f (fun x hx => Or.inr (Or.inl (hS x hx).2.1)), j, v, c1, mc, HA.fr f (key _ _ HA.1 (by simp)) (fun _ => key _ _ a3 (by simp)), hv⟩
theorem LsS.add {h' : HM} {v c1 v' c' : Nat} {mc mc' : Int} {rs2 : List Nat} (hP : ParC h ps tb pos ne) (HT : SBh g h tb tv cap t) (G : Gw I h0 J h) (F : Fr g h0 h [ps]) (j : J ps = none ∧ J q1 = none ∧ h0 q1 = none) (HA : ALh g h q1 v c1 mc rs) (hv : v < gB g ∨ (h0 v = none ∧ J v = none)) (H2 : ALh g h' q1 v' c' mc' rs2) (hv' : v' = v ∨ h v' = none) (f : Fr g h h' [q1, v]) : LsS g I h0 ps tb tv cap ne t J pos q1 rs2 h' := by
  obtain ⟨TA, t1, t2, t3, t4, -⟩ := id HT
  obtain ⟨fq, a3, -⟩ := id HA.2.2.1
  have mem : ∀ x : Nat, x ≠ q1 → x ≠ v → x ∉ [q1, v] := fun x h1 h2 hx => by
    rcases List.mem_cons.mp hx with e | e
    · exact h1 e
    · exact h2 (List.mem_singleton.mp e)
  refine ⟨f.keep hP (mem _ (ne_of hP HA.1 (by simp)) (ne_of hP a3 (by simp))), HT.fr f (mem _ (ne_of t1 HA.1 (by simp)) (ne_of t1 a3 (by simp))) (mem _ (ne_of t3 HA.1 (by simp)) (ne_of t3 a3 (by simp))), G.fr f (fun x hx => ?_), F.call f (fun x hx => ?_), j, v', c', mc', H2, ?_⟩
  · rcases List.mem_cons.mp hx with e | e
    · rw [e]; exact Or.inl j.2.1
    · rw [List.mem_singleton.mp e]; exact hv.elim Or.inr (fun e => Or.inl e.2)
  · rcases List.mem_cons.mp hx with e | e
    · rw [e]; exact Or.inr (Or.inl j.2.2)
    · rw [List.mem_singleton.mp e]; exact hv.elim (fun e => Or.inr (Or.inr e)) (fun e => Or.inr (Or.inl e.1))
  · rcases hv' with e | e
    · rw [e]; exact hv
    · exact Or.inr ⟨F.fresh e, G.2.1.none e⟩
end
/-- a cached Integer -/
def cI (g : GB) (x : Nat) : Nat := g.2.2.2.2 (192 + x)
theorem kc_cI {h : HM} (K : KC g h) {x : Nat} (hx : x < 64) : h (cI g x) = some (.inr (30, [vz ((x : Nat) : Int)])) := by
  have := (K.2.2.2 (128 + x) (by omega)).1
  unfold cI
  rw [show 192 + x = 64 + (128 + x) by omega, this, show (((128 + x : Nat) : Int) - 128) = ((x : Nat) : Int) by omega]
theorem sgN_F : ∀ u : Fin 128, stp (u.val : Int) ≠ -1 → sgN (stN (u.val : Int)) = u.val := by decide +kernel
/-- the steps as they stand in the text -/
theorem steps_txt {c : List Nat} (hc : ∀ u ∈ c, u < 128) {f p : Nat} (hp : p ≤ c.length) (hf : c.length < p + f) : (c.take (runS c f p).2).drop p = (runS c f p).1.map sgN := by
  obtain ⟨h1, h2, h3⟩ := runS_facts c f p hp hf
  apply List.ext_getElem?
  intro j
  rw [List.getElem?_drop, List.getElem?_map]
  cases q : (runS c f p).1[j]? with
  | none =>
    have hj := List.getElem?_eq_none_iff.mp q
    rw [List.getElem?_eq_none_iff.mpr (by rw [List.length_take]; omega)]; rfl
  | some x =>
    have hj := (List.getElem?_eq_some_iff.mp q).1
    obtain ⟨g1, g2⟩ := h2 j x q
    have hlt := isS_lt g1
    obtain ⟨u, hu⟩ : ∃ u, c[p + j]? = some u := ⟨_, List.getElem?_eq_getElem hlt⟩
    have hu7 := hc u (List.mem_of_getElem? hu)
    rw [List.getElem?_take_of_lt (by omega), hu, g2, hrV_some hu, Option.map_some]
    unfold isS at g1
    rw [hrV_some hu] at g1
    rw [sgN_F ⟨u, hu7⟩ (of_decide_eq_true g1)]
theorem k_takeT {ps tb tv cap pos ne : Nat} {t : List Nat} (hG : GKx g) (HP : ParC h ps tb pos ne) (HT : SBh g h tb tv cap t) (hu9 : ∀ u ∈ t, u < 128) (hl : t.length < 100000) (hpn : pos ≤ t.length) {lo hi : Nat} (hlh : lo < 200 ∧ hi < 200) (hB : gB g ≤ ps) (hn : nx t pos lo hi = true) : Kc g mX6_take 6 1 7 [.ref ps, vz ((lo : Nat) : Int), vz ((hi : Nat) : Int)] h (rR (fun v h' => ∃ u : Nat, t[pos]? = some u ∧ (lo ≤ u ∧ u ≤ hi) ∧ v = some (vz ((u : Nat) : Int)) ∧ ParC h' ps tb (pos + 1) ne ∧ Fr g h h' [ps])) := by
  have this := k_take (lo := lo) (hi := hi) hG HP HT hu9 hl hpn hlh hB
  rw [if_pos hn] at this
  exact this.mono (fun r h2 q => by
    obtain ⟨u, e1, e2, e3, e4⟩ := q
    rw [nx_some e1] at hn
    exact ⟨_, e2, u, e1, of_decide_eq_true hn, rfl, e3, e4⟩)
theorem k_takeF {ps tb tv cap pos ne : Nat} {t : List Nat} (hG : GKx g) (HP : ParC h ps tb pos ne) (HT : SBh g h tb tv cap t) (hu9 : ∀ u ∈ t, u < 128) (hl : t.length < 100000) (hpn : pos ≤ t.length) {lo hi : Nat} (hlh : lo < 200 ∧ hi < 200) (hB : gB g ≤ ps) (hn : nx t pos lo hi = false) : Kc g mX6_take 6 1 7 [.ref ps, vz ((lo : Nat) : Int), vz ((hi : Nat) : Int)] h (synQ g h [] pos) := by
  have this := k_take (lo := lo) (hi := hi) hG HP HT hu9 hl hpn hlh hB
  rw [if_neg (by rw [hn]; exact Bool.false_ne_true)] at this
  exact this
theorem LsS.err {I h0 J : HM} {ps tb tv cap ne pos q1 e : Nat} {t rs : List Nat} {r : RS} {h2 : HM} (L : LsS g I h0 ps tb tv cap ne t J pos q1 rs h) (q : synQ g h [] e r h2) : synE g h0 ps tb ne e r h2 := by
  obtain ⟨q, e1, z, x, f⟩ := q
  exact ⟨q, pos, e1, L.2.2.2.1.fresh z, x, f.keep L.1 (fun q => by cases q), L.2.2.2.1.call f nil_in⟩
/-- the phrase as the parser of rows has it -/
theorem phrP_noD {c : List Nat} {k v p : Nat} (h : isD c p = false) : phrP c k v p = .error p := by
  unfold phrP; rw [phrF_noD h]; rfl
theorem phrP_no58 {c : List Nat} {k v p : Nat} (h : isD c p = true) (h58 : hrV c (runD c (c.length + 1) p).2 ≠ 58) : phrP c k v p = .error (runD c (c.length + 1) p).2 := by
  obtain ⟨a, b⟩ := phrF_no58 h h58
  unfold phrP; rw [if_neg (by rw [a]; exact Bool.false_ne_true), b]
theorem phrP_noS {c : List Nat} {k v p : Nat} (h : isD c p = true) (h58 : hrV c (runD c (c.length + 1) p).2 = 58) (hS : isS c ((runD c (c.length + 1) p).2 + 1) = false) : phrP c k v p = .error ((runD c (c.length + 1) p).2 + 1) := by
  obtain ⟨a, b⟩ := phrF_noS h h58 hS
  unfold phrP; rw [if_neg (by rw [a]; exact Bool.false_ne_true), b]
theorem phrP_yes {c : List Nat} {k v p : Nat} (h : isD c p = true) (h58 : hrV c (runD c (c.length + 1) p).2 = 58) (hS : isS c ((runD c (c.length + 1) p).2 + 1) = true) : phrP c k v p = .ok ([[(k, v, 0, (runD c (c.length + 1) p).1, (runS c (c.length + 1) ((runD c (c.length + 1) p).2 + 1)).1)]], (runS c (c.length + 1) ((runD c (c.length + 1) p).2 + 1)).2) := by
  unfold phrP; rw [phrF_yes h h58 hS]; rfl
end V2S

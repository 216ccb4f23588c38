/-! THE LOGIC for the component: frames; rules that name the heap behind a store (printed by gen/mkcw.py) -/
section CW0
/-- h' is h but for the places S that lie high, and what is new; what is an object stays one -/
def Fr (g : GB) (h h' : HM) (S : List Nat) : Prop := (∀ q : Nat, h q ≠ none → h' q ≠ none) ∧ (∀ q : Nat, h q ≠ none → (gB g ≤ q → q ∉ S) → h' q = h q) ∧ ∀ q : Nat, isO h q → isO h' q
theorem isO.eq {h h' : HM} {q : Nat} (hq : h' q = h q) (ho : isO h q) : isO h' q := by unfold isO at ho ⊢; rw [hq]; exact ho
theorem Fr.refl {g : GB} (h : HM) (S : List Nat) : Fr g h h S := ⟨fun _ h => h, fun _ _ _ => rfl, fun _ h => h⟩
theorem Fr.o {g : GB} {h h' : HM} {S : List Nat} (f : Fr g h h' S) {q : Nat} (ho : isO h q) : isO h' q := f.2.2 q ho
theorem Fr.write {g : GB} {h h1 h2 : HM} {S : List Nat} {a : Nat} (f : Fr g h h1 S) (he : isO h2 a) (hq : ∀ q : Nat, q ≠ a → h2 q = h1 q) (hB : gB g ≤ a) (ha : a ∈ S) : Fr g h h2 S :=
  ⟨fun q hn => by
    by_cases c : q = a
    · rw [c]; rcases he with ⟨x, e⟩ | ⟨x, e, -⟩ <;> rw [e] <;> exact fun q => by cases q
    · rw [hq q c]; exact f.1 q hn, fun q hn hS => by rw [hq q (fun c => hS (c ▸ hB) (c ▸ ha))]; exact f.2.1 q hn hS, fun q ho => by
    by_cases c : q = a
    · rw [c]; exact he
    · exact isO.eq (hq q c) (f.o ho)⟩
theorem Fr.writeN {g : GB} {h h1 h2 : HM} {S : List Nat} {a : Nat} (f : Fr g h h1 S) (he : isO h2 a) (hq : ∀ q : Nat, q ≠ a → h2 q = h1 q) (ha : h a = none) : Fr g h h2 S :=
  ⟨fun q hn => by
    by_cases c : q = a
    · rw [c]; rcases he with ⟨x, e⟩ | ⟨x, e, -⟩ <;> rw [e] <;> exact fun q => by cases q
    · rw [hq q c]; exact f.1 q hn, fun q hn hS => by rw [hq q (fun c => hn (c ▸ ha))]; exact f.2.1 q hn hS, fun q ho => by
    by_cases c : q = a
    · rw [c]; exact he
    · exact isO.eq (hq q c) (f.o ho)⟩
theorem Fr.fresh {g : GB} {h h1 : HM} {S : List Nat} {a : Nat} (f : Fr g h h1 S) (hn : h1 a = none) : h a = none := by
  cases hc : h a with
  | none => rfl
  | some e => exact absurd hn (f.1 a (by rw [hc]; exact fun q => by cases q))
theorem Fr.alloc {g : GB} {h h1 h2 : HM} {S : List Nat} {a : Nat} (f : Fr g h h1 S) (he : isO h2 a) (hq : ∀ q : Nat, q ≠ a → h2 q = h1 q) (hn : h1 a = none) : Fr g h h2 S := f.writeN he hq (f.fresh hn)
theorem Fr.call {g : GB} {h h1 h2 : HM} {S S' : List Nat} (f : Fr g h h1 S) (f2 : Fr g h1 h2 S') (hS : ∀ x : Nat, x ∈ S' → x ∈ S ∨ h x = none ∨ x < gB g) : Fr g h h2 S :=
  ⟨fun q hn => f2.1 q (f.1 q hn), fun q hn hq => by rw [f2.2.1 q (f.1 q hn) (fun hB c => (hS q c).elim (hq hB) (fun r => r.elim hn (fun r => by omega)))]; exact f.2.1 q hn hq, fun q ho => f2.o (f.o ho)⟩
theorem Fr.more {g : GB} {h h' : HM} {S S' : List Nat} (f : Fr g h h' S) (hS : ∀ x : Nat, x ∈ S → x ∈ S' ∨ h x = none ∨ x < gB g) : Fr g h h' S' := (Fr.refl h S').call f hS
theorem Fr.keep {g : GB} {h h' : HM} {S : List Nat} {q : Nat} {e : MO} (f : Fr g h h' S) (hq : h q = some e) (hn : q ∉ S) : h' q = some e := by rw [f.2.1 q (by rw [hq]; exact fun q => by cases q) (fun _ => hn)]; exact hq
theorem Fr.low {g : GB} {h h' : HM} {S : List Nat} {q : Nat} {e : MO} (f : Fr g h h' S) (hq : h q = some e) (hn : q < gB g) : h' q = some e := by rw [f.2.1 q (by rw [hq]; exact fun q => by cases q) (fun c => by omega)]; exact hq
theorem Fr.kp {g : GB} {h h' : HM} {S : List Nat} {q : Nat} {e : MO} (f : Fr g h h' S) (hq : h q = some e) (hn : gB g ≤ q → q ∉ S) : h' q = some e := by rw [f.2.1 q (by rw [hq]; exact fun q => by cases q) hn]; exact hq
theorem ne_of {h : HM} {a b : Nat} {x y : MO} (ha : h a = some x) (hb : h b = some y) (hne : x ≠ y) : a ≠ b := fun e => by subst e; rw [ha] at hb; exact hne (Option.some.inj hb)
theorem ne_no {h : HM} {a b : Nat} {x : MO} (ha : h a = some x) (hb : h b = none) : a ≠ b := fun e => by subst e; rw [ha] at hb; cases hb
theorem nil_in {g : GB} {S : List Nat} {h : HM} : ∀ x : Nat, x ∈ ([] : List Nat) → x ∈ S ∨ h x = none ∨ x < gB g := fun x hx => by cases hx
/-- I is part of h -/
def Sub (I h : HM) : Prop := ∀ (q : Nat) (e : MO), I q = some e → h q = some e
theorem Sub.refl (h : HM) : Sub h h := fun _ _ h => h
theorem Sub.trans {a b c : HM} (h1 : Sub a b) (h2 : Sub b c) : Sub a c := fun q e h => h2 q e (h1 q e h)
theorem Sub.fr {g : GB} {I h h' : HM} {S : List Nat} (hI : Sub I h) (f : Fr g h h' S) (hS : ∀ x : Nat, x ∈ S → I x = none ∨ x < gB g) : Sub I h' := fun q e hq => by
  by_cases c : q < gB g
  · exact f.low (hI q e hq) c
  · exact f.keep (hI q e hq) (fun r => (hS q r).elim (fun z => by rw [z] at hq; cases hq) c)
theorem Sub.fr0 {g : GB} {I h h' : HM} (hI : Sub I h) (f : Fr g h h' []) : Sub I h' := hI.fr f (fun x hx => by cases hx)
/-- a cell is added to what stays as it is -/
theorem Sub.add {I h : HM} {q : Nat} {e : MO} (hI : Sub I h) (hq : h q = some e) : Sub (hs I q e) h := fun x y hx => by
  unfold hs at hx
  by_cases c : x = q
  · rw [if_pos c] at hx; cases hx; rw [c]; exact hq
  · rw [if_neg c] at hx; exact hI x y hx
theorem hs_same (I : HM) (q : Nat) (e : MO) : hs I q e q = some e := if_pos rfl
theorem hs_ne {I : HM} {q x : Nat} {e : MO} (h : x ≠ q) : hs I q e x = I x := if_neg h
variable {g : GB} {M : MI} {d c k : Nat} {Q : RS → HM → Prop} {pc : Nat} {ls : List (Option Value)} {st : List Value} {h : HM} {a b : Int}
theorem ev_putC {idx ci kf a : Nat} {fin dcl : Bool} {ty : FieldType} {fs : List Value} {v : Value} (fs' : List Value) (hd : decode M.2.1 pc = .ok (.putfield idx, 3)) (hg : GF M.1.cls idx ci kf fin dcl ty) (ha : h a = some (.inr (ci, fs))) (hB : gB g ≤ a) (hfi : fin = false ∨ (dcl = true ∧ M.1.name = "<init>")) (hn : narrow ty v = v) (hfit : fits ty v = true) (hlen : kf < fs.length) (hs' : fs.set kf v = fs')
    (kk : ∀ h' : HM, h' a = some (.inr (ci, fs')) → (∀ q : Nat, q ≠ a → h' q = h q) → Ev g M d c k Q (pc + 3) ls st h') : Ev g M d c k Q pc ls (v :: .ref a :: st) h := by
  subst hs'
  exact ev_putf hd hg ha hB hfi hn hfit hlen (kk _ (hs_same _ _ _) (fun q hq => hs_ne hq))
theorem ev_newC {idx ci N c' k' : Nat} {C : String} {T : u_T} {tyf : Nat → FieldType} (fs : List Value) (hd : decode M.2.1 pc = .ok (.new idx, 3)) (hC : CF ci C T N tyf) (hw : (Jvm.Cond.classLink M.1.cls idx C) ∈ lw_all) (hi : (Jvm.Cond.instantiable C N) ∈ lw_all) (hn : (Jvm.Cond.initialized C) ∈ lw_all) (hfs : (List.range N).map (fun j => defaultValue (tyf j)) = fs) (h1 : c' + 1 ≤ c) (h2 : k' + N ≤ k)
    (kk : ∀ (q : Nat) (h' : HM), h q = none → gB g ≤ q → h' q = some (.inr (ci, fs)) → (∀ x : Nat, x ≠ q → h' x = h x) → Ev g M d c' k' Q (pc + 3) ls (.ref q :: st) h') : Ev g M d c k Q pc ls st h :=
  ev_new hd hC hw hi hn hfs h1 h2 (fun q hq hB => kk q _ hq hB (hs_same _ _ _) (fun x hx => hs_ne hx))
theorem zIz (n : Nat) : (fun _ : Nat => (0 : Int32)) = fun j : Nat => zI ((fun _ : Nat => (0 : Int)) j) := by funext j; rfl
theorem ev_newA_int {N c' k' : Nat} (hd : decode M.2.1 pc = .ok (.newarray .int, 2)) (h0 : 0 ≤ a) (hN : a.toNat = N) (hb : N ≤ 60000000) (h1 : c' + 1 ≤ c) (h2 : k' + N ≤ k) (kk : ∀ (q : Nat) (h' : HM), h q = none → gB g ≤ q → h' q = some (.inl (0, (N, .inl (fun j => zI ((fun _ : Nat => (0 : Int)) j))))) → (∀ x : Nat, x ≠ q → h' x = h x) → Ev g M d c' k' Q (pc + 2) ls (.ref q :: st) h') : Ev g M d c k Q pc ls (vz a :: st) h :=
  ev_new_int hd q228 (by rw [zI_lt0 (by omega)]; omega) (by rw [zI_clamp h0 (by omega)]; exact hN) hb h1 h2 (fun q hq hB => kk q _ hq hB (hs_same _ _ _) (fun x hx => hs_ne hx))
theorem ev_newA_boolean {N c' k' : Nat} (hd : decode M.2.1 pc = .ok (.newarray .boolean, 2)) (h0 : 0 ≤ a) (hN : a.toNat = N) (hb : N ≤ 60000000) (h1 : c' + 1 ≤ c) (h2 : k' + N ≤ k) (kk : ∀ (q : Nat) (h' : HM), h q = none → gB g ≤ q → h' q = some (.inl (1, (N, .inl (fun j => zI ((fun _ : Nat => (0 : Int)) j))))) → (∀ x : Nat, x ≠ q → h' x = h x) → Ev g M d c' k' Q (pc + 2) ls (.ref q :: st) h') : Ev g M d c k Q pc ls (vz a :: st) h :=
  ev_new_boolean hd q2661 (by rw [zI_lt0 (by omega)]; omega) (by rw [zI_clamp h0 (by omega)]; exact hN) hb h1 h2 (fun q hq hB => kk q _ hq hB (hs_same _ _ _) (fun x hx => hs_ne hx))
theorem ev_newA_byte {N c' k' : Nat} (hd : decode M.2.1 pc = .ok (.newarray .byte, 2)) (h0 : 0 ≤ a) (hN : a.toNat = N) (hb : N ≤ 60000000) (h1 : c' + 1 ≤ c) (h2 : k' + N ≤ k) (kk : ∀ (q : Nat) (h' : HM), h q = none → gB g ≤ q → h' q = some (.inl (2, (N, .inl (fun j => zI ((fun _ : Nat => (0 : Int)) j))))) → (∀ x : Nat, x ≠ q → h' x = h x) → Ev g M d c' k' Q (pc + 2) ls (.ref q :: st) h') : Ev g M d c k Q pc ls (vz a :: st) h :=
  ev_new_byte hd q314 (by rw [zI_lt0 (by omega)]; omega) (by rw [zI_clamp h0 (by omega)]; exact hN) hb h1 h2 (fun q hq hB => kk q _ hq hB (hs_same _ _ _) (fun x hx => hs_ne hx))
theorem ev_newA_char {N c' k' : Nat} (hd : decode M.2.1 pc = .ok (.newarray .char, 2)) (h0 : 0 ≤ a) (hN : a.toNat = N) (hb : N ≤ 60000000) (h1 : c' + 1 ≤ c) (h2 : k' + N ≤ k) (kk : ∀ (q : Nat) (h' : HM), h q = none → gB g ≤ q → h' q = some (.inl (3, (N, .inl (fun j => zI ((fun _ : Nat => (0 : Int)) j))))) → (∀ x : Nat, x ≠ q → h' x = h x) → Ev g M d c' k' Q (pc + 2) ls (.ref q :: st) h') : Ev g M d c k Q pc ls (vz a :: st) h :=
  ev_new_char hd q1185 (by rw [zI_lt0 (by omega)]; omega) (by rw [zI_clamp h0 (by omega)]; exact hN) hb h1 h2 (fun q hq hB => kk q _ hq hB (hs_same _ _ _) (fun x hx => hs_ne hx))
theorem ev_ialdY {q n : Nat} {A : Nat → Int} (hd : decode M.2.1 pc = .ok (.iaload, 1)) (ha : h q = some (.inl (0, (n, .inl (fun j => zI (A j)))))) (h0 : 0 ≤ a ∧ a < n ∧ inR a) (kk : Ev g M d c k Q (pc + 1) ls (vz (A a.toNat) :: st) h) : Ev g M d c k Q pc ls (vz a :: .ref q :: st) h :=
  ev_iald hd ha (zI_in h0.1 h0.2.1 h0.2.2) (by rw [zI_clamp h0.1 h0.2.2]; exact kk)
theorem ev_zaldY {q n : Nat} {A : Nat → Int} (hd : decode M.2.1 pc = .ok (.baload, 1)) (ha : h q = some (.inl (1, (n, .inl (fun j => zI (A j)))))) (h0 : 0 ≤ a ∧ a < n ∧ inR a) (kk : Ev g M d c k Q (pc + 1) ls (vz (A a.toNat) :: st) h) : Ev g M d c k Q pc ls (vz a :: .ref q :: st) h :=
  ev_zald hd ha (zI_in h0.1 h0.2.1 h0.2.2) (by rw [zI_clamp h0.1 h0.2.2]; exact kk)
theorem ev_baldY {q n : Nat} {A : Nat → Int} (hd : decode M.2.1 pc = .ok (.baload, 1)) (ha : h q = some (.inl (2, (n, .inl (fun j => zI (A j)))))) (h0 : 0 ≤ a ∧ a < n ∧ inR a) (kk : Ev g M d c k Q (pc + 1) ls (vz (A a.toNat) :: st) h) : Ev g M d c k Q pc ls (vz a :: .ref q :: st) h :=
  ev_bald hd ha (zI_in h0.1 h0.2.1 h0.2.2) (by rw [zI_clamp h0.1 h0.2.2]; exact kk)
theorem ev_caldY {q n : Nat} {A : Nat → Int} (hd : decode M.2.1 pc = .ok (.caload, 1)) (ha : h q = some (.inl (3, (n, .inl (fun j => zI (A j)))))) (h0 : 0 ≤ a ∧ a < n ∧ inR a) (kk : Ev g M d c k Q (pc + 1) ls (vz (A a.toNat) :: st) h) : Ev g M d c k Q pc ls (vz a :: .ref q :: st) h :=
  ev_cald hd ha (zI_in h0.1 h0.2.1 h0.2.2) (by rw [zI_clamp h0.1 h0.2.2]; exact kk)
theorem vp_nar_bf : ∀ n : Fin 256, vp_nar .byte (zI ((n.val : Int) - 128)) = zI ((n.val : Int) - 128) := by decide +kernel
theorem vp_nar_b {x : Int} (h : -128 ≤ x ∧ x < 128) : vp_nar .byte (zI x) = zI x := by
  have := vp_nar_bf ⟨(x + 128).toNat, by omega⟩
  have e : (((x + 128).toNat : Nat) : Int) - 128 = x := by omega
  simp only [e] at this
  exact this
theorem vp_nar_cf : ∀ n : Fin 256, vp_nar .char (zI (n.val : Int)) = zI (n.val : Int) := by decide +kernel
theorem vp_nar_c {x : Int} (h : 0 ≤ x ∧ x < 256) : vp_nar .char (zI x) = zI x := by
  have := vp_nar_cf ⟨x.toNat, by omega⟩
  have e : ((x.toNat : Nat) : Int) = x := by omega
  simp only [e] at this
  exact this
theorem vp_nar_zz {x : Int} (h : 0 ≤ x ∧ x < 2) : vp_nar .boolean (zI x) = zI x := vp_nar_z (by omega)
theorem ev_iastY {q n : Nat} {A : Nat → Int} (hd : decode M.2.1 pc = .ok (.iastore, 1)) (ha : h q = some (.inl (0, (n, .inl (fun j => zI (A j)))))) (hB : gB g ≤ q) (h0 : 0 ≤ a ∧ a < n ∧ inR a) (hb : True) (kk : ∀ h' : HM, h' q = some (.inl (0, (n, .inl (fun j => zI (uz A a.toNat b j))))) → (∀ x : Nat, x ≠ q → h' x = h x) → Ev g M d c k Q (pc + 1) ls st h') : Ev g M d c k Q pc ls (vz b :: vz a :: .ref q :: st) h :=
  ev_iast hd ha hB (zI_in h0.1 h0.2.1 h0.2.2) (by rw [zI_clamp h0.1 h0.2.2, uz_zI]; exact kk _ (hs_same _ _ _) (fun x hx => hs_ne hx))
theorem ev_zastY {q n : Nat} {A : Nat → Int} (hd : decode M.2.1 pc = .ok (.bastore, 1)) (ha : h q = some (.inl (1, (n, .inl (fun j => zI (A j)))))) (hB : gB g ≤ q) (h0 : 0 ≤ a ∧ a < n ∧ inR a) (hb : 0 ≤ b ∧ b < 2) (kk : ∀ h' : HM, h' q = some (.inl (1, (n, .inl (fun j => zI (uz A a.toNat b j))))) → (∀ x : Nat, x ≠ q → h' x = h x) → Ev g M d c k Q (pc + 1) ls st h') : Ev g M d c k Q pc ls (vz b :: vz a :: .ref q :: st) h :=
  ev_zast hd ha hB (zI_in h0.1 h0.2.1 h0.2.2) (by rw [zI_clamp h0.1 h0.2.2, vp_nar_zz hb, uz_zI]; exact kk _ (hs_same _ _ _) (fun x hx => hs_ne hx))
theorem ev_bastY {q n : Nat} {A : Nat → Int} (hd : decode M.2.1 pc = .ok (.bastore, 1)) (ha : h q = some (.inl (2, (n, .inl (fun j => zI (A j)))))) (hB : gB g ≤ q) (h0 : 0 ≤ a ∧ a < n ∧ inR a) (hb : -128 ≤ b ∧ b < 128) (kk : ∀ h' : HM, h' q = some (.inl (2, (n, .inl (fun j => zI (uz A a.toNat b j))))) → (∀ x : Nat, x ≠ q → h' x = h x) → Ev g M d c k Q (pc + 1) ls st h') : Ev g M d c k Q pc ls (vz b :: vz a :: .ref q :: st) h :=
  ev_bast hd ha hB (zI_in h0.1 h0.2.1 h0.2.2) (by rw [zI_clamp h0.1 h0.2.2, vp_nar_b hb, uz_zI]; exact kk _ (hs_same _ _ _) (fun x hx => hs_ne hx))
theorem ev_chstY {q n : Nat} {A : Nat → Int} (hd : decode M.2.1 pc = .ok (.castore, 1)) (ha : h q = some (.inl (3, (n, .inl (fun j => zI (A j)))))) (hB : gB g ≤ q) (h0 : 0 ≤ a ∧ a < n ∧ inR a) (hb : 0 ≤ b ∧ b < 256) (kk : ∀ h' : HM, h' q = some (.inl (3, (n, .inl (fun j => zI (uz A a.toNat b j))))) → (∀ x : Nat, x ≠ q → h' x = h x) → Ev g M d c k Q (pc + 1) ls st h') : Ev g M d c k Q pc ls (vz b :: vz a :: .ref q :: st) h :=
  ev_cast hd ha hB (zI_in h0.1 h0.2.1 h0.2.2) (by rw [zI_clamp h0.1 h0.2.2, vp_nar_c hb, uz_zI]; exact kk _ (hs_same _ _ _) (fun x hx => hs_ne hx))
theorem ev_aaldY {q n t : Nat} {ty : FieldType} {f : Nat → Option Nat} {v : Value} (hd : decode M.2.1 pc = .ok (.aaload, 1)) (ha : h q = some (.inl (t, (n, .inr (.inr (.inr (.inr f))))))) (ht : tyL[t]? = some ty) (href : ty.isReference = true) (h0 : 0 ≤ a ∧ a < n ∧ inR a) (hv : va_rf (f a.toNat) = v) (kk : Ev g M d c k Q (pc + 1) ls (v :: st) h) : Ev g M d c k Q pc ls (vz a :: .ref q :: st) h :=
  ev_aald hd ha ht href (zI_in h0.1 h0.2.1 h0.2.2) (by rw [zI_clamp h0.1 h0.2.2]; exact hv) kk
theorem ev_aastY {q n v : Nat} {f : Nat → Option Nat} (hd : decode M.2.1 pc = .ok (.aastore, 1)) (ha : h q = some (.inl (9, (n, .inr (.inr (.inr (.inr f))))))) (hB : gB g ≤ q) (h0 : 0 ≤ a ∧ a < n ∧ inR a) (hv : isO h v) (kk : ∀ h' : HM, h' q = some (.inl (9, (n, .inr (.inr (.inr (.inr (va_up f a.toNat (some v)))))))) → (∀ x : Nat, x ≠ q → h' x = h x) → Ev g M d c k Q (pc + 1) ls st h') : Ev g M d c k Q pc ls (.ref v :: vz a :: .ref q :: st) h :=
  ev_aast hd ha rfl rfl hB (zI_in h0.1 h0.2.1 h0.2.2) (any_O hv) (by rw [zI_clamp h0.1 h0.2.2]; exact kk _ (hs_same _ _ _) (fun x hx => hs_ne hx))
theorem ev_aastNY {q n : Nat} {f : Nat → Option Nat} (hd : decode M.2.1 pc = .ok (.aastore, 1)) (ha : h q = some (.inl (9, (n, .inr (.inr (.inr (.inr f))))))) (hB : gB g ≤ q) (h0 : 0 ≤ a ∧ a < n ∧ inR a) (kk : ∀ h' : HM, h' q = some (.inl (9, (n, .inr (.inr (.inr (.inr (va_up f a.toNat none))))))) → (∀ x : Nat, x ≠ q → h' x = h x) → Ev g M d c k Q (pc + 1) ls st h') : Ev g M d c k Q pc ls (.null :: vz a :: .ref q :: st) h :=
  ev_aastN hd ha hB (zI_in h0.1 h0.2.1 h0.2.2) (by rw [zI_clamp h0.1 h0.2.2]; exact kk _ (hs_same _ _ _) (fun x hx => hs_ne hx))
theorem ev_anewOY {idx c' k' N : Nat} (hG : GKx g) (hd : decode M.2.1 pc = .ok (.anewarray idx, 3)) (hw : (Jvm.Cond.classLink M.1.cls idx "java/lang/Object") ∈ lw_all) (h0 : 0 ≤ a) (hN : a.toNat = N) (hb : N ≤ 60000000) (h1 : c' + 1 ≤ c) (h2 : k' + N ≤ k) (kk : ∀ (q : Nat) (h' : HM), h q = none → gB g ≤ q → h' q = some (.inl (9, (N, .inr (.inr (.inr (.inr (fun _ => none))))))) → (∀ x : Nat, x ≠ q → h' x = h x) → Ev g M d c' k' Q (pc + 3) ls (.ref q :: st) h') : Ev g M d c k Q pc ls (vz a :: st) h :=
  ev_anewO hG hd hw (by rw [zI_lt0 (by omega)]; omega) (by rw [zI_clamp h0 (by omega)]; exact hN) (by omega) h1 h2 (fun q hq hB => kk q _ hq hB (hs_same _ _ _) (fun x hx => hs_ne hx))
/-- a copied row -/
def cpA (A B : Nat → Int) (sp dp n : Nat) : Nat → Int := fun j => if dp ≤ j ∧ j < dp + n then A (sp + (j - dp)) else B j
def cpQ (A B : Nat → Option Nat) (sp dp n : Nat) : Nat → Option Nat := fun j => if dp ≤ j ∧ j < dp + n then A (sp + (j - dp)) else B j
theorem cpA_eq (A B : Nat → Int) (sp dp n : Nat) : va_cpy (fun j => zI (A j)) (fun j => zI (B j)) sp dp n = fun j => zI (cpA A B sp dp n j) := by
  funext j
  unfold cpA
  by_cases c : dp ≤ j ∧ j < dp + n
  · rw [if_pos c, pk_cpy_in c.1 c.2]
  · rw [if_neg c, pk_cpy_out (by omega)]
theorem cpQ_eq (A B : Nat → Option Nat) (sp dp n : Nat) : va_cpy A B sp dp n = cpQ A B sp dp n := by
  funext j
  unfold cpQ
  by_cases c : dp ≤ j ∧ j < dp + n
  · rw [if_pos c, pk_cpy_in c.1 c.2]
  · rw [if_neg c, pk_cpy_out (by omega)]
theorem fits_b {x : Int} (h : -128 ≤ x ∧ x < 128) : fits .byte (vz x) = true := by
  have f : ∀ n : Fin 256, fits .byte (vz ((n.val : Int) - 128)) = true := by decide +kernel
  have := f ⟨(x + 128).toNat, by omega⟩
  have e : (((x + 128).toNat : Nat) : Int) - 128 = x := by omega
  simp only [e] at this
  exact this
/-- ints, bytes: what fits -/
def fitA (t : Nat) (A : Nat → Int) (n : Nat) : Prop := t = 0 ∨ (t = 2 ∧ ∀ i, i < n → -128 ≤ A i ∧ A i < 128)
theorem ev_copyiY {idx a0 q t n0 n1 : Nat} {A B : Nat → Int} {sp dp n : Nat} (hd : decode M.2.1 pc = .ok (.invokestatic idx, 3)) (hlk : (Jvm.Cond.methodLink M.1.cls idx arraycopyName) ∈ lw_all) (ha0 : h a0 = some (.inl (t, (n0, .inl (fun j => zI (A j)))))) (ha : h q = some (.inl (t, (n1, .inl (fun j => zI (B j)))))) (hf : fitA t A n0) (hB : gB g ≤ q)
    (h4 : sp + n ≤ n0) (h5 : dp + n ≤ n1) (hb : n0 < 100000000 ∧ n1 < 100000000) (hdd : 1 ≤ d) (hW8 : (st.map fun v => v.category).sum ≤ 8)
    (kk : ∀ h' : HM, h' q = some (.inl (t, (n1, .inl (fun j => zI (cpA A B sp dp n j))))) → (∀ x : Nat, x ≠ q → h' x = h x) → Ev g M d c k Q (pc + 3) ls st h') : Ev g M d c k Q pc ls (vz (n : Int) :: vz (dp : Int) :: .ref q :: vz (sp : Int) :: .ref a0 :: st) h := by
  have c1 := zI_clamp (a := (sp : Int)) (by omega) (by omega)
  have c2 := zI_clamp (a := (dp : Int)) (by omega) (by omega)
  have c3 := zI_clamp (a := (n : Int)) (by omega) (by omega)
  rw [Int.toNat_natCast] at c1 c2 c3
  have key : ∀ ty : FieldType, tyL[t]? = some ty → refKind ty = false → (∀ i : Nat, i < n → fits ty (vz (A (sp + i))) = true) → Ev g M d c k Q pc ls (vz (n : Int) :: vz (dp : Int) :: .ref q :: vz (sp : Int) :: .ref a0 :: st) h := by
    intro ty ht hp hfi
    refine ev_copyi hd hlk ha0 ha ht hp hB (by rw [zI_lt0 (by omega)]; omega) (by rw [zI_lt0 (by omega)]; omega) (by rw [zI_lt0 (by omega)]; omega) (by rw [c1, c3]; exact h4) (by rw [c2, c3]; exact h5) (fun i hi => by rw [c3] at hi; rw [c1]; exact hfi i hi) hdd hW8 ?_
    rw [c1, c2, c3, cpA_eq]
    exact kk _ (hs_same _ _ _) (fun x hx => hs_ne hx)
  rcases hf with rfl | ⟨rfl, hf⟩
  · exact key .int rfl rfl (fun i _ => rfl)
  · exact key .byte rfl rfl (fun i hi => fits_b (hf _ (by omega)))
theorem ev_copyqY {idx a0 q n0 n1 : Nat} {A B : Nat → Option Nat} {sp dp n : Nat} (hd : decode M.2.1 pc = .ok (.invokestatic idx, 3)) (hlk : (Jvm.Cond.methodLink M.1.cls idx arraycopyName) ∈ lw_all) (ha0 : h a0 = some (.inl (9, (n0, .inr (.inr (.inr (.inr A))))))) (ha : h q = some (.inl (9, (n1, .inr (.inr (.inr (.inr B))))))) (hel : ∀ i y : Nat, sp ≤ i → i < sp + n → A i = some y → isO h y) (hB : gB g ≤ q)
    (h4 : sp + n ≤ n0) (h5 : dp + n ≤ n1) (hb : n0 < 100000000 ∧ n1 < 100000000) (hdd : 1 ≤ d) (hW8 : (st.map fun v => v.category).sum ≤ 8)
    (kk : ∀ h' : HM, h' q = some (.inl (9, (n1, .inr (.inr (.inr (.inr (cpQ A B sp dp n))))))) → (∀ x : Nat, x ≠ q → h' x = h x) → Ev g M d c k Q (pc + 3) ls st h') : Ev g M d c k Q pc ls (vz (n : Int) :: vz (dp : Int) :: .ref q :: vz (sp : Int) :: .ref a0 :: st) h := by
  have c1 := zI_clamp (a := (sp : Int)) (by omega) (by omega)
  have c2 := zI_clamp (a := (dp : Int)) (by omega) (by omega)
  have c3 := zI_clamp (a := (n : Int)) (by omega) (by omega)
  rw [Int.toNat_natCast] at c1 c2 c3
  refine ev_copyq hd hlk ha0 ha hB (by rw [zI_lt0 (by omega)]; omega) (by rw [zI_lt0 (by omega)]; omega) (by rw [zI_lt0 (by omega)]; omega) (by rw [c1, c3]; exact h4) (by rw [c2, c3]; exact h5) (fun i hi y hy => by rw [c3] at hi; rw [c1] at hy; exact hel (sp + i) y (by omega) (by omega) hy) hdd hW8 ?_
  rw [c1, c2, c3, cpQ_eq]
  exact kk _ (hs_same _ _ _) (fun x hx => hs_ne hx)
theorem ev_aloadR {i : Nat} {x : Option Nat} (hd : decode M.2.1 pc = .ok (.aload i, 2)) (hv : ls[(i : Nat)]? = some (some (va_rf x))) (kk : Ev g M d c k Q (pc + 2) ls (va_rf x :: st) h) : Ev g M d c k Q pc ls st h := by
  cases x with
  | none => exact ev_aloadN hd hv kk
  | some y => exact ev_aload hd hv kk
theorem ev_aload_nR {i : Fin 4} {x : Option Nat} (hd : decode M.2.1 pc = .ok (.aload_n i, 1)) (hv : ls[(i : Nat)]? = some (some (va_rf x))) (kk : Ev g M d c k Q (pc + 1) ls (va_rf x :: st) h) : Ev g M d c k Q pc ls st h := by
  cases x with
  | none => exact ev_aload_nN hd hv kk
  | some y => exact ev_aload_n hd hv kk
theorem ev_astoreR {i : Nat} {x : Option Nat} (hd : decode M.2.1 pc = .ok (.astore i, 2)) (hi : (i : Nat) < M.2.2.1) (hp : okP ls (i : Nat) = true) (kk : Ev g M d c k Q (pc + 2) (ls.set (i : Nat) (some (va_rf x))) st h) : Ev g M d c k Q pc ls (va_rf x :: st) h := by
  cases x with
  | none => exact ev_astoreN hd hi hp kk
  | some y => exact ev_astore hd hi hp kk
theorem ev_astore_nR {i : Fin 4} {x : Option Nat} (hd : decode M.2.1 pc = .ok (.astore_n i, 1)) (hi : (i : Nat) < M.2.2.1) (hp : okP ls (i : Nat) = true) (kk : Ev g M d c k Q (pc + 1) (ls.set (i : Nat) (some (va_rf x))) st h) : Ev g M d c k Q pc ls (va_rf x :: st) h := by
  cases x with
  | none => exact ev_astore_nN hd hi hp kk
  | some y => exact ev_astore_n hd hi hp kk
theorem ev_ldcwiZ {index : Nat} {n : Int} {v : Int32} (hd : decode M.2.1 pc = .ok (.ldc_w index, 3)) (hw : (Jvm.Cond.constant M.1.cls index v) ∈ lw_all) (he : v = zI n) (kk : Ev g M d c k Q (pc + 3) ls (vz n :: st) h) : Ev g M d c k Q pc ls st h := by
  subst he
  intro p l e R s m args below meth cd H locs cells slots mc ms lz F hc hk hmc hms hL hR hz hl
  exact lv_ldcw F.1 F.2.1 F.2.2.2.2.2.1 (F.2.2.2.2.2.2.1 _ hw) hd (kk p l e R s m args below meth cd H locs cells slots mc ms lz F hc hk hmc hms hL hR hz hl)
/-! calls: an answer, and what is said of it -/
abbrev rR (P : Option Value → HM → Prop) : RS → HM → Prop := fun r h' => ∃ v : Option Value, r = .inl v ∧ P v h'
theorem rR.one {P : Option Value → HM → Prop} {v : Option Value} {h : HM} (hp : P v h) : rR P (.inl v) h := ⟨v, rfl, hp⟩
theorem ev_callVR {i : Instr} {len b n ci N d' c' k' : Nat} {C : String} {T : u_T} {My : MI} {as rest : List Value} {fs : List Value} {P : Option Value → HM → Prop} (hd : decode M.2.1 pc = .ok (i, len)) (hV : EntV g M.1.cls i len C My.1 n) (hC : Cee My) (hb : h b = some (.inr (ci, fs))) (hci : clG[ci]? = some (C, T, N)) (hn : as.length = n) (hst : st = as.reverse ++ .ref b :: rest)
    (hK : Kc g My d' c' k' (.ref b :: as) h (rR P)) (hdd : d' + 1 ≤ d) (hc' : c' ≤ c) (hk' : k' ≤ k) (hW8 : (rest.map fun v => v.category).sum ≤ 8)
    (kr : ∀ (v : Option Value) (h' : HM), P v h' → Ev g M d (c - c') (k - k') Q (pc + len) ls (v.toList ++ rest) h') : Ev g M d c k Q pc ls st h :=
  ev_callV hd hV hC hb hci hn hst hK hdd hc' hk' hW8 (fun v h' q => by obtain ⟨v', e, hp⟩ := q; cases e; exact kr v h' hp) (fun E q h' r => by obtain ⟨v', e, -⟩ := r; cases e)
theorem ev_callSR {i : Instr} {len n d' c' k' : Nat} {My : MI} {as rest : List Value} {P : Option Value → HM → Prop} (hd : decode M.2.1 pc = .ok (i, len)) (hS : EntS g M.1.cls i len My.1 n) (hC : Cee My) (hn : as.length = n) (hst : st = as.reverse ++ rest)
    (hK : Kc g My d' c' k' as h (rR P)) (hdd : d' + 1 ≤ d) (hc' : c' ≤ c) (hk' : k' ≤ k) (hW8 : (rest.map fun v => v.category).sum ≤ 8)
    (kr : ∀ (v : Option Value) (h' : HM), P v h' → Ev g M d (c - c') (k - k') Q (pc + len) ls (v.toList ++ rest) h') : Ev g M d c k Q pc ls st h :=
  ev_callS hd hS hC hn hst hK hdd hc' hk' hW8 (fun v h' q => by obtain ⟨v', e, hp⟩ := q; cases e; exact kr v h' hp) (fun E q h' r => by obtain ⟨v', e, -⟩ := r; cases e)
/-- nothing is changed, the answer is v -/
theorem ev_callVE {i : Instr} {len b n ci N d' : Nat} {C : String} {T : u_T} {My : MI} {as rest : List Value} {fs : List Value} {v : Value} (hd : decode M.2.1 pc = .ok (i, len)) (hV : EntV g M.1.cls i len C My.1 n) (hC : Cee My) (hb : h b = some (.inr (ci, fs))) (hci : clG[ci]? = some (C, T, N)) (hn : as.length = n) (hst : st = as.reverse ++ .ref b :: rest)
    (hK : Kc g My d' 0 0 (.ref b :: as) h (sR (some v) h)) (hdd : d' + 1 ≤ d) (hW8 : (rest.map fun v => v.category).sum ≤ 8)
    (kk : Ev g M d c k Q (pc + len) ls (v :: rest) h) : Ev g M d c k Q pc ls st h :=
  ev_callV hd hV hC hb hci hn hst hK hdd (Nat.zero_le _) (Nat.zero_le _) hW8 (fun v' h' q => by obtain ⟨q1, q2⟩ := q; cases q1; subst q2; exact kk) (fun E q h' r => by cases r.1)
theorem ev_callVN {i : Instr} {len b n ci N d' : Nat} {C : String} {T : u_T} {My : MI} {as rest : List Value} {fs : List Value} (hd : decode M.2.1 pc = .ok (i, len)) (hV : EntV g M.1.cls i len C My.1 n) (hC : Cee My) (hb : h b = some (.inr (ci, fs))) (hci : clG[ci]? = some (C, T, N)) (hn : as.length = n) (hst : st = as.reverse ++ .ref b :: rest)
    (hK : Kc g My d' 0 0 (.ref b :: as) h (sR none h)) (hdd : d' + 1 ≤ d) (hW8 : (rest.map fun v => v.category).sum ≤ 8)
    (kk : Ev g M d c k Q (pc + len) ls rest h) : Ev g M d c k Q pc ls st h :=
  ev_callV hd hV hC hb hci hn hst hK hdd (Nat.zero_le _) (Nat.zero_le _) hW8 (fun v' h' q => by obtain ⟨q1, q2⟩ := q; cases q1; subst q2; exact kk) (fun E q h' r => by cases r.1)
theorem ev_callSN {i : Instr} {len n d' : Nat} {My : MI} {as rest : List Value} (hd : decode M.2.1 pc = .ok (i, len)) (hS : EntS g M.1.cls i len My.1 n) (hC : Cee My) (hn : as.length = n) (hst : st = as.reverse ++ rest) (hK : Kc g My d' 0 0 as h (sR none h)) (hdd : d' + 1 ≤ d) (hW8 : (rest.map fun v => v.category).sum ≤ 8)
    (kk : Ev g M d c k Q (pc + len) ls rest h) : Ev g M d c k Q pc ls st h :=
  ev_callS hd hS hC hn hst hK hdd (Nat.zero_le _) (Nat.zero_le _) hW8 (fun v' h' q => by obtain ⟨q1, q2⟩ := q; cases q1; subst q2; exact kk) (fun E q h' r => by cases r.1)
end CW0

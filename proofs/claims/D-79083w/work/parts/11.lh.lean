/-! THE LOGIC: fields, arrays, new, return, throw (printed by gen/mklh.py) -/
section LH
section
variable {g : GB} {M : MI} {d : Nat} {p : Program} {l : Launch} {R : Room} {s : State} {m : MethodId} {args : Array Value} {meth : Method} {cd : Code}
theorem Fix.locks (F : Fix g M d p l R s m args meth cd) : meth.locks = false := F.2.2.2.2.1
theorem Fix.own (F : Fix g M d p l R s m args meth cd) : s.vm.findClass M.1.cls = some m.cls := F.2.2.2.2.2.1
theorem Fix.words (F : Fix g M d p l R s m args meth cd) : ∀ w ∈ lw_all, w.before args s = true := F.2.2.2.2.2.2.1
theorem Fix.gk (F : Fix g M d p l R s m args meth cd) : g.2.2.2.1 s := F.2.2.2.2.2.2.2.1
theorem Fix.frames (F : Fix g M d p l R s m args meth cd) : d ≤ R.frames := F.2.2.2.2.2.2.2.2.1
theorem Fix.room (F : Fix g M d p l R s m args meth cd) : 64 * d ≤ R.locals := F.2.2.2.2.2.2.2.2.2.1
theorem Fix.name (F : Fix g M d p l R s m args meth cd) : meth.name = M.1.name := F.2.2.2.2.2.2.2.2.2.2.1
theorem Fix.tab (F : Fix g M d p l R s m args meth cd) : cd.exceptionTable.toList = hTab M := F.2.2.2.2.2.2.2.2.2.2.2.1
theorem Fix.notr (F : Fix g M d p l R s m args meth cd) : l.stackTraces = false := F.2.2.2.2.2.2.2.2.2.2.2.2.1
theorem Fix.gbase (F : Fix g M d p l R s m args meth cd) : GBase g := F.2.2.2.2.2.2.2.2.2.2.2.2.2.1
theorem Fix.low1 (F : Fix g M d p l R s m args meth cd) : gB g ≤ s.heap.size := F.2.2.2.2.2.2.2.2.2.2.2.2.2.2.1
theorem Fix.low2 (F : Fix g M d p l R s m args meth cd) : ∀ q : Nat, q < gB g → s.heap[q]? = g.2.2.1[q]? := F.2.2.2.2.2.2.2.2.2.2.2.2.2.2.2.1
theorem Fix.named (F : Fix g M d p l R s m args meth cd) : s.methodNamed? M.1 = some m := F.2.2.2.2.2.2.2.2.2.2.2.2.2.2.2.2
theorem Fix.kn (F : Fix g M d p l R s m args meth cd) : KnG g s := (F.gbase.2 s F.gk).1
theorem Fix.nw (F : Fix g M d p l R s m args meth cd) : NW s := (F.gbase.2 s F.gk).2
theorem Fix.vaS (F : Fix g M d p l R s m args meth cd) {h : HM} {H : Heap} {locs : List Loc} (r : Rel g h H) (hz : s.heap.size ≤ H.size) (hl : ∀ z ∈ locs, gA g z.base) : va_S (gA g) s.heap H locs :=
  ⟨hz, fun q _ hq => by
    have hlt : q < gB g := Nat.not_le.mp hq
    rw [r.2.1 q hlt, F.low2 q hlt], hl⟩
end
theorem KnG.va0 {g : GB} {U : State} (h : KnG g U) : va_K g.1 clG [] U := ⟨h.1, fun k q hk => by simp at hk⟩
theorem KnG.va1 {g : GB} {U : State} (h : KnG g U) {t : Nat} {ty : FieldType} (ht : tyL[t]? = some ty) (hn : ∀ C, ty ≠ .object C) : va_K g.1 clG [(g.2.1 t, ty)] U := by
  refine ⟨h.1, fun k q hk => ?_⟩
  cases k with
  | succ k => simp at hk
  | zero =>
    cases hk
    obtain ⟨h1, h2⟩ := h.2.1 t ty ht
    refine ⟨h1, ?_⟩
    cases ty with
    | object C => exact absurd rfl (hn C)
    | _ => exact h2
theorem locs_add {g : GB} {locs : List Loc} {a i : Nat} (h : ∀ z ∈ locs, gA g z.base) (ha : gB g ≤ a) : ∀ z ∈ locs ++ [⟨a, i⟩], gA g z.base := t_lc h ha
/-- the field of place kf of the class of number ci, by the entry idx of the class own -/
def LkF (own : String) (idx : Nat) (ref n dsc : String) (args : Array Value) (s : State) : Prop := (Jvm.Cond.fieldLink own idx ref n dsc).before args s = true ∨ ∃ host, (Jvm.Cond.fieldLinkNest own idx ref n dsc host).before args s = true
def LkA (own : String) (idx : Nat) (ref : String) (t : String × String × String × Bool) : Prop := ∀ (s : State) (args : Array Value), (∀ w ∈ lw_all, w.before args s = true) → NW s → LkF own idx ref t.2.1 t.2.2.1 args s ∧ ∀ x, s.fieldFound? t.1 t.2.1 t.2.2.1 = some x → s.fieldFound? ref t.2.1 t.2.2.1 = some x
def GF (own : String) (idx ci kf : Nat) (fin dcl : Bool) (ty : FieldType) : Prop := ∃ (C : String) (T : u_T) (N : Nat) (tyf : Nat → FieldType) (ref : String), CF ci C T N tyf ∧ kf < N ∧ LkA own idx ref (T kf) ∧ (T kf).2.2.2 = fin ∧ parseFieldDescriptor (T kf).2.2.1 = some ty ∧ (dcl = true → (T kf).1 = own)
theorem gf_of {own ref C : String} {idx ci kf N : Nat} {T : u_T} {tyf : Nat → FieldType} {fin dcl : Bool} {ty : FieldType} (hC : CF ci C T N tyf) (hk : kf < N) (hl : LkA own idx ref (T kf)) (hf : (T kf).2.2.2 = fin) (hty : parseFieldDescriptor (T kf).2.2.1 = some ty) (ho : dcl = true → (T kf).1 = own) : GF own idx ci kf fin dcl ty := ⟨C, T, N, tyf, ref, hC, hk, hl, hf, hty, ho⟩
/-- a link to a field by the class that declares it; by another class's name; to a nest mate's -/
theorem lk_own {own : String} {idx : Nat} {t : String × String × String × Bool} (hw : (Jvm.Cond.fieldLink own idx t.1 t.2.1 t.2.2.1) ∈ lw_all) : LkA own idx t.1 t := fun s args hts _ => ⟨Or.inl (hts _ hw), fun _ h => h⟩
theorem lk_same {own ref : String} {idx : Nat} {t : String × String × String × Bool} (hw : (Jvm.Cond.fieldLink own idx ref t.2.1 t.2.2.1) ∈ lw_all) (hs : (Jvm.Cond.sameField ref t.1 t.2.1 t.2.2.1) ∈ lw_all) : LkA own idx ref t := fun s args hts _ => ⟨Or.inl (hts _ hw), fun x h => u_same (hts _ hs) x h⟩
theorem lk_nest {own host : String} {idx : Nat} {t : String × String × String × Bool} (hw : (Jvm.Cond.fieldLinkNest own idx t.1 t.2.1 t.2.2.1 host) ∈ lw_tbl) : LkA own idx t.1 t := fun s args _ hn => ⟨Or.inr ⟨host, va_Nw.use rfl (hn _ hw rfl)⟩, fun _ h => h⟩
theorem lk_nestS {own ref host : String} {idx : Nat} {t : String × String × String × Bool} (hw : (Jvm.Cond.fieldLinkNest own idx ref t.2.1 t.2.2.1 host) ∈ lw_tbl) (hs : (Jvm.Cond.sameField ref t.1 t.2.1 t.2.2.1) ∈ lw_all) : LkA own idx ref t := fun s args hts hn => ⟨Or.inr ⟨host, va_Nw.use rfl (hn _ hw rfl)⟩, fun x h => u_same (hts _ hs) x h⟩
variable {g : GB} {M : MI} {d c k : Nat} {Q : RS → HM → Prop} {pc : Nat} {ls : List (Option Value)} {st : List Value} {h : HM}

theorem ev_getf {idx ci kf a : Nat} {fin dcl : Bool} {ty : FieldType} {fs : List Value} {v : Value} (hd : decode M.2.1 pc = .ok (.getfield idx, 3)) (hg : GF M.1.cls idx ci kf fin dcl ty) (ha : h a = some (.inr (ci, fs))) (hv : fs[kf]? = some v) (kk : Ev g M d c k Q (pc + 3) ls (v :: st) h) (hlo : ci = 20 → kf < 2 := by first | decide | exact fun q9 => absurd q9 (by decide)) : Ev g M d c k Q pc ls (.ref a :: st) h := by
  intro p l e R s m args below meth cd H locs cells slots mc ms lz F hc hk hmc hms hL hR hz hl
  obtain ⟨C, T, N, tyf, ref, ⟨c1, c2, c3, c4⟩, hkN, hw, -⟩ := hg
  obtain ⟨hl1, hsm⟩ := hw s args F.words F.nw
  obtain ⟨r, hr1, cell, q1, q2, -, q3, -, q4⟩ := hR.rd ha
  have hr : r = (C, T, N) := Option.some.inj (hr1.symm.trans c1)
  subst hr
  obtain ⟨hS, hfc, kC, hkC, hkind⟩ := F.kn.1 ci _ c1
  obtain ⟨cf, kf', fi, f, hi, hsl⟩ := hS kf hkN
  have hsv : cell.slots[f.slot]? = some v := by
    rw [hsl, q4 kf hkN hlo]
    simp [vp_V, hv]
  have hst := (u_facts hfc hkC (u_lays F.words c2 hkN) hi).1
  rcases hl1 with h1 | ⟨host, h1⟩
  · exact W.getf F.1 F.2.1 F.own h1 (hsm _ hi) hst q1 q3 hsv rfl rfl hd (kk p l e R s m args below meth cd H locs cells slots mc ms lz F hc hk hmc hms hL hR hz hl)
  · exact va_Wgetf F.1 F.2.1 F.own h1 (hsm _ hi) hst q1 q3 hsv rfl rfl hd (kk p l e R s m args below meth cd H locs cells slots mc ms lz F hc hk hmc hms hL hR hz hl)
theorem ev_putf {idx ci kf a : Nat} {fin dcl : Bool} {ty : FieldType} {fs : List Value} {v : Value} (hd : decode M.2.1 pc = .ok (.putfield idx, 3)) (hg : GF M.1.cls idx ci kf fin dcl ty) (ha : h a = some (.inr (ci, fs))) (hB : gB g ≤ a) (hfi : fin = false ∨ (dcl = true ∧ M.1.name = "<init>")) (hn : narrow ty v = v) (hfit : fits ty v = true) (hlen : kf < fs.length) (kk : Ev g M d c k Q (pc + 3) ls st (hs h a (.inr (ci, fs.set kf v)))) : Ev g M d c k Q pc ls (v :: .ref a :: st) h := by
  intro p l e R s m args below meth cd H locs cells slots mc ms lz F hc hk hmc hms hL hR hz hl
  obtain ⟨C, T, N, tyf, ref, ⟨c1, c2, c3, c4⟩, hkN, hw, hfin, hty, hdecl⟩ := hg
  obtain ⟨hl1, hsm⟩ := hw s args F.words F.nw
  have hap := va_apart (own := M.1.cls) F.words c2 tyf c3 c4 F.kn.va0 c1
  obtain ⟨r, h1, cell, q1, q2, q3, q4⟩ := hR.at hB ha
  have hr : r = (C, T, N) := Option.some.inj (h1.symm.trans c1)
  subst hr
  obtain ⟨hS, hfc, kC, hkC, hkind⟩ := F.kn.1 ci _ c1
  obtain ⟨cf, kf', fi, f, hi, hsl⟩ := hS kf hkN
  have hlay := F.words _ (c2 _ (u_in_lay hkN))
  have hst := (u_facts hfc hkC (u_lays F.words c2 hkN) hi).1
  have fin1 : ∀ H' : Heap, H'[a]? = some (cell.setSlot f.slot v) → H'.size = H.size → (∀ q : Nat, q ≠ a → H'[q]? = H[q]?) → W p l e R s m args below meth cd H' (locs ++ [⟨a, f.slot⟩]) cells slots (EQ g below Q args s mc ms) (F0 m (pc + 3) lz st) := by
    intro H' e1 e2 e3
    rw [hsl] at e1
    exact kk p l e R s m args below meth cd H' _ cells slots mc ms lz F hc hk hmc hms hL (hR.set hB e2 e3 ⟨_, c1, t_OB.to (V := updV (vp_V fs) kf v) ⟨_, e1, q2, q3, t_set q4 hap hkN v⟩ (fun j _ => vp_updV_set hlen v j)⟩) (by rw [e2]; exact hz) (locs_add hl hB)
  unfold u_lay at hlay
  cases fin with
  | false =>
    rw [if_neg (by rw [hfin]; decide)] at hlay
    have h6 := u_store hfc hkC hkind hlay hi hty hn hfit
    rcases hl1 with h1 | ⟨host, h1⟩
    · exact W.putK F.1 F.2.1 (f := f) ⟨F.own, h1, ⟨_, _, _, hsm _ hi⟩, hst⟩ (by rw [q2]; exact h6) q1 q3 (by rw [hsl]; exact k2_hasslot (q4 kf hkN)) rfl rfl hd fin1
    · exact va_WputK F.1 F.2.1 (f := f) F.own h1 (hsm _ hi) hst (by rw [q2]; exact h6) q1 q3 (by rw [hsl]; exact k2_hasslot (q4 kf hkN)) rfl rfl hd fin1
  | true =>
    rw [if_pos hfin] at hlay
    have hini : meth.name = "<init>" := by
      rcases hfi with q | q
      · cases q
      · rw [F.name]; exact q.2
    have hdc : dcl = true := by
      rcases hfi with q | q
      · cases q
      · exact q.1
    have hcf : m.cls = cf := by
      obtain ⟨_, _, c', _, _, _, -, -, hf', -, -, -, hown2, -⟩ := Cond.laysFinal_spec hlay
      have e1 : c' = cf := by have := hi.symm.trans hf'; simp at this; exact this.1.symm
      rw [hdecl hdc] at hown2
      rw [← e1]; exact Option.some.inj (F.own.symm.trans hown2)
    have h6 := u_fits hfc hkC hkind (Or.inr hlay) hi hty hn hfit
    rcases hl1 with h1 | ⟨host, h1⟩
    · exact W.putFinK F.1 F.2.1 F.own h1 (hsm _ hi) hst hcf hini (by rw [q2]; exact h6) q1 q3 (by rw [hsl]; exact k2_hasslot (q4 kf hkN)) rfl rfl hd fin1
    · refine va_Wputf F.1 F.2.1 F.own h1 (hsm _ hi) hst (Or.inr ⟨hcf, hini⟩) q1 (by rw [q3]; exact fun h => by cases h) (by rw [hsl]; exact k2_hasslot (q4 kf hkN)) h6.1 (by rw [q2, q3]; exact h6.2) rfl rfl hd ?_
      have ha9 : a < H.size := (Array.getElem?_eq_some_iff.mp q1).1
      refine fin1 _ ?_ ?_ ?_
      · simp [Array.getElem?_setIfInBounds, ha9]
      · simp
      · intro q hq
        simp [Array.getElem?_setIfInBounds, Ne.symm hq]
theorem ev_iald {a n : Nat} {f : Nat → Int32} {i : Int32} (hd : decode M.2.1 pc = .ok (.iaload, 1)) (ha : h a = some (.inl (0, (n, .inl f)))) (hin : vp_in i n) (kk : Ev g M d c k Q (pc + 1) ls (.int (f i.toNatClampNeg) :: st) h) : Ev g M d c k Q pc ls (.int i :: .ref a :: st) h := by
  intro p l e R s m args below meth cd H locs cells slots mc ms lz F hc hk hmc hms hL hR hz hl
  have hlt : i.toNatClampNeg < n := Nat.not_le.mp fun q => hin (Or.inr q)
  obtain ⟨cell, q1, q2, q3, q5, q6, q7, q4⟩ := hR.rd ha
  exact W.iald (v := .int (f i.toNatClampNeg)) F.1 F.2.1 q1 (arr_of (F.kn.2.1 0 .int rfl).1 q2 q5) q3 (fun q => hin (q.imp id (fun z => Nat.le_trans q6 z))) (by rw [q4 _ hlt]; show (arrV _ _ _).slots[_]? = _; rw [arrV_read _ _ hlt]) rfl rfl hd (kk p l e R s m args below meth cd H locs cells slots mc ms lz F hc hk hmc hms hL hR hz hl)
theorem ev_zald {a n : Nat} {f : Nat → Int32} {i : Int32} (hd : decode M.2.1 pc = .ok (.baload, 1)) (ha : h a = some (.inl (1, (n, .inl f)))) (hin : vp_in i n) (kk : Ev g M d c k Q (pc + 1) ls (.int (f i.toNatClampNeg) :: st) h) : Ev g M d c k Q pc ls (.int i :: .ref a :: st) h := by
  intro p l e R s m args below meth cd H locs cells slots mc ms lz F hc hk hmc hms hL hR hz hl
  have hlt : i.toNatClampNeg < n := Nat.not_le.mp fun q => hin (Or.inr q)
  obtain ⟨cell, q1, q2, q3, q5, q6, q7, q4⟩ := hR.rd ha
  exact W.zald (v := .int (f i.toNatClampNeg)) F.1 F.2.1 q1 (arr_of (F.kn.2.1 1 .boolean rfl).1 q2 q5) q3 (fun q => hin (q.imp id (fun z => Nat.le_trans q6 z))) (by rw [q4 _ hlt]; show (arrV _ _ _).slots[_]? = _; rw [arrV_read _ _ hlt]) rfl rfl hd (kk p l e R s m args below meth cd H locs cells slots mc ms lz F hc hk hmc hms hL hR hz hl)
theorem ev_bald {a n : Nat} {f : Nat → Int32} {i : Int32} (hd : decode M.2.1 pc = .ok (.baload, 1)) (ha : h a = some (.inl (2, (n, .inl f)))) (hin : vp_in i n) (kk : Ev g M d c k Q (pc + 1) ls (.int (f i.toNatClampNeg) :: st) h) : Ev g M d c k Q pc ls (.int i :: .ref a :: st) h := by
  intro p l e R s m args below meth cd H locs cells slots mc ms lz F hc hk hmc hms hL hR hz hl
  have hlt : i.toNatClampNeg < n := Nat.not_le.mp fun q => hin (Or.inr q)
  obtain ⟨cell, q1, q2, q3, q5, q6, q7, q4⟩ := hR.rd ha
  exact W.bald (v := .int (f i.toNatClampNeg)) F.1 F.2.1 q1 (arr_of (F.kn.2.1 2 .byte rfl).1 q2 q5) q3 (fun q => hin (q.imp id (fun z => Nat.le_trans q6 z))) (by rw [q4 _ hlt]; show (arrV _ _ _).slots[_]? = _; rw [arrV_read _ _ hlt]) rfl rfl hd (kk p l e R s m args below meth cd H locs cells slots mc ms lz F hc hk hmc hms hL hR hz hl)
theorem ev_cald {a n : Nat} {f : Nat → Int32} {i : Int32} (hd : decode M.2.1 pc = .ok (.caload, 1)) (ha : h a = some (.inl (3, (n, .inl f)))) (hin : vp_in i n) (kk : Ev g M d c k Q (pc + 1) ls (.int (f i.toNatClampNeg) :: st) h) : Ev g M d c k Q pc ls (.int i :: .ref a :: st) h := by
  intro p l e R s m args below meth cd H locs cells slots mc ms lz F hc hk hmc hms hL hR hz hl
  have hlt : i.toNatClampNeg < n := Nat.not_le.mp fun q => hin (Or.inr q)
  obtain ⟨cell, q1, q2, q3, q5, q6, q7, q4⟩ := hR.rd ha
  exact W.cald (v := .int (f i.toNatClampNeg)) F.1 F.2.1 q1 (arr_of (F.kn.2.1 3 .char rfl).1 q2 q5) q3 (fun q => hin (q.imp id (fun z => Nat.le_trans q6 z))) (by rw [q4 _ hlt]; show (arrV _ _ _).slots[_]? = _; rw [arrV_read _ _ hlt]) rfl rfl hd (kk p l e R s m args below meth cd H locs cells slots mc ms lz F hc hk hmc hms hL hR hz hl)
theorem ev_lald {a n : Nat} {f : Nat → Int64} {i : Int32} (hd : decode M.2.1 pc = .ok (.laload, 1)) (ha : h a = some (.inl (4, (n, .inr (.inl f))))) (hin : vp_in i n) (kk : Ev g M d c k Q (pc + 1) ls (.long (f i.toNatClampNeg) :: st) h) : Ev g M d c k Q pc ls (.int i :: .ref a :: st) h := by
  intro p l e R s m args below meth cd H locs cells slots mc ms lz F hc hk hmc hms hL hR hz hl
  have hlt : i.toNatClampNeg < n := Nat.not_le.mp fun q => hin (Or.inr q)
  obtain ⟨cell, q1, q2, q3, q5, q6, q7, q4⟩ := hR.rd ha
  exact W.lald (v := .long (f i.toNatClampNeg)) F.1 F.2.1 q1 (arr_of (F.kn.2.1 4 .long rfl).1 q2 q5) q3 (fun q => hin (q.imp id (fun z => Nat.le_trans q6 z))) (by rw [q4 _ hlt]; show (arrV _ _ _).slots[_]? = _; rw [arrV_read _ _ hlt]) rfl rfl hd (kk p l e R s m args below meth cd H locs cells slots mc ms lz F hc hk hmc hms hL hR hz hl)
theorem ev_dald {a n : Nat} {f : Nat → UInt64} {i : Int32} (hd : decode M.2.1 pc = .ok (.daload, 1)) (ha : h a = some (.inl (5, (n, .inr (.inr (.inr (.inl f))))))) (hin : vp_in i n) (kk : Ev g M d c k Q (pc + 1) ls (.double (f i.toNatClampNeg) :: st) h) : Ev g M d c k Q pc ls (.int i :: .ref a :: st) h := by
  intro p l e R s m args below meth cd H locs cells slots mc ms lz F hc hk hmc hms hL hR hz hl
  have hlt : i.toNatClampNeg < n := Nat.not_le.mp fun q => hin (Or.inr q)
  obtain ⟨cell, q1, q2, q3, q5, q6, q7, q4⟩ := hR.rd ha
  exact W.dald (v := .double (f i.toNatClampNeg)) F.1 F.2.1 q1 (arr_of (F.kn.2.1 5 .double rfl).1 q2 q5) q3 (fun q => hin (q.imp id (fun z => Nat.le_trans q6 z))) (by rw [q4 _ hlt]; show (arrV _ _ _).slots[_]? = _; rw [arrV_read _ _ hlt]) rfl rfl hd (kk p l e R s m args below meth cd H locs cells slots mc ms lz F hc hk hmc hms hL hR hz hl)
theorem ev_aald {a n t : Nat} {ty : FieldType} {f : Nat → Option Nat} {i : Int32} {v : Value} (hd : decode M.2.1 pc = .ok (.aaload, 1)) (ha : h a = some (.inl (t, (n, .inr (.inr (.inr (.inr f))))))) (ht : tyL[t]? = some ty) (href : ty.isReference = true) (hin : vp_in i n) (hv : va_rf (f i.toNatClampNeg) = v) (kk : Ev g M d c k Q (pc + 1) ls (v :: st) h) : Ev g M d c k Q pc ls (.int i :: .ref a :: st) h := by
  intro p l e R s m args below meth cd H locs cells slots mc ms lz F hc hk hmc hms hL hR hz hl
  subst hv
  have hlt : i.toNatClampNeg < n := Nat.not_le.mp fun q => hin (Or.inr q)
  obtain ⟨cell, q1, q2, q3, q5, q6, q7, q4⟩ := hR.rd ha
  exact W.aald (v := va_rf (f i.toNatClampNeg)) (ty := ty) F.1 F.2.1 q1 (arr_of (F.kn.2.1 t ty ht).1 q2 q5) href q3 (fun q => hin (q.imp id (fun z => Nat.le_trans q6 z))) (by rw [q4 _ hlt]; show (arrV _ _ _).slots[_]? = _; rw [arrV_read _ _ hlt]) rfl rfl hd (kk p l e R s m args below meth cd H locs cells slots mc ms lz F hc hk hmc hms hL hR hz hl)
theorem ev_iast {a n : Nat} {f : Nat → Int32} {i : Int32} {x : Int32} (hd : decode M.2.1 pc = .ok (.iastore, 1)) (ha : h a = some (.inl (0, (n, .inl f)))) (hB : gB g ≤ a) (hin : vp_in i n) (kk : Ev g M d c k Q (pc + 1) ls st (hs h a (.inl (0, (n, .inl (upd f i.toNatClampNeg x)))))) : Ev g M d c k Q pc ls (.int x :: .int i :: .ref a :: st) h := by
  intro p l e R s m args below meth cd H locs cells slots mc ms lz F hc hk hmc hms hL hR hz hl
  refine W.iast F.1 F.2.1 (hR.at hB ha) ((F.kn.2.1 0 .int rfl).1 n _) (fun q => by cases q) (by show ¬ (i < 0 ∨ (arrV _ _ _).slots.size ≤ _); rw [arrV_size]; exact hin) rfl rfl hd fun H1 e1 z oq => ?_
  refine kk p l e R s m args below meth cd H1 _ cells slots mc ms lz F hc hk hmc hms hL (hR.set hB z oq ?_) (by rw [z]; exact hz) (locs_add hl hB)
  show H1[a]? = some (vp_cell _ _)
  rw [e1]
  show some ((vp_cell _ _).setSlot _ _) = _
  rw [vp_cell_i, vp_cell_i, arrV_store]
  congr 2
  funext q
  by_cases hq : q = i.toNatClampNeg
  · subst hq
    simp [updV, upd, vp_updL, vf_upd, vp_nar]
    try rfl
  · simp [updV, upd, vp_updL, vf_upd, hq]
theorem ev_zast {a n : Nat} {f : Nat → Int32} {i : Int32} {x : Int32} (hd : decode M.2.1 pc = .ok (.bastore, 1)) (ha : h a = some (.inl (1, (n, .inl f)))) (hB : gB g ≤ a) (hin : vp_in i n) (kk : Ev g M d c k Q (pc + 1) ls st (hs h a (.inl (1, (n, .inl (upd f i.toNatClampNeg (vp_nar .boolean x))))))) : Ev g M d c k Q pc ls (.int x :: .int i :: .ref a :: st) h := by
  intro p l e R s m args below meth cd H locs cells slots mc ms lz F hc hk hmc hms hL hR hz hl
  refine W.zast F.1 F.2.1 (hR.at hB ha) ((F.kn.2.1 1 .boolean rfl).1 n _) (fun q => by cases q) (by show ¬ (i < 0 ∨ (arrV _ _ _).slots.size ≤ _); rw [arrV_size]; exact hin) rfl rfl hd fun H1 e1 z oq => ?_
  refine kk p l e R s m args below meth cd H1 _ cells slots mc ms lz F hc hk hmc hms hL (hR.set hB z oq ?_) (by rw [z]; exact hz) (locs_add hl hB)
  show H1[a]? = some (vp_cell _ _)
  rw [e1]
  show some ((vp_cell _ _).setSlot _ _) = _
  rw [vp_cell_i, vp_cell_i, arrV_store]
  congr 2
  funext q
  by_cases hq : q = i.toNatClampNeg
  · subst hq
    simp [updV, upd, vp_updL, vf_upd, vp_nar]
    try rfl
  · simp [updV, upd, vp_updL, vf_upd, hq]
theorem ev_bast {a n : Nat} {f : Nat → Int32} {i : Int32} {x : Int32} (hd : decode M.2.1 pc = .ok (.bastore, 1)) (ha : h a = some (.inl (2, (n, .inl f)))) (hB : gB g ≤ a) (hin : vp_in i n) (kk : Ev g M d c k Q (pc + 1) ls st (hs h a (.inl (2, (n, .inl (upd f i.toNatClampNeg (vp_nar .byte x))))))) : Ev g M d c k Q pc ls (.int x :: .int i :: .ref a :: st) h := by
  intro p l e R s m args below meth cd H locs cells slots mc ms lz F hc hk hmc hms hL hR hz hl
  refine W.bast F.1 F.2.1 (hR.at hB ha) ((F.kn.2.1 2 .byte rfl).1 n _) (fun q => by cases q) (by show ¬ (i < 0 ∨ (arrV _ _ _).slots.size ≤ _); rw [arrV_size]; exact hin) rfl rfl hd fun H1 e1 z oq => ?_
  refine kk p l e R s m args below meth cd H1 _ cells slots mc ms lz F hc hk hmc hms hL (hR.set hB z oq ?_) (by rw [z]; exact hz) (locs_add hl hB)
  show H1[a]? = some (vp_cell _ _)
  rw [e1]
  show some ((vp_cell _ _).setSlot _ _) = _
  rw [vp_cell_i, vp_cell_i, arrV_store]
  congr 2
  funext q
  by_cases hq : q = i.toNatClampNeg
  · subst hq
    simp [updV, upd, vp_updL, vf_upd, vp_nar]
    try rfl
  · simp [updV, upd, vp_updL, vf_upd, hq]
theorem ev_cast {a n : Nat} {f : Nat → Int32} {i : Int32} {x : Int32} (hd : decode M.2.1 pc = .ok (.castore, 1)) (ha : h a = some (.inl (3, (n, .inl f)))) (hB : gB g ≤ a) (hin : vp_in i n) (kk : Ev g M d c k Q (pc + 1) ls st (hs h a (.inl (3, (n, .inl (upd f i.toNatClampNeg (vp_nar .char x))))))) : Ev g M d c k Q pc ls (.int x :: .int i :: .ref a :: st) h := by
  intro p l e R s m args below meth cd H locs cells slots mc ms lz F hc hk hmc hms hL hR hz hl
  refine W.cast F.1 F.2.1 (hR.at hB ha) ((F.kn.2.1 3 .char rfl).1 n _) (fun q => by cases q) (by show ¬ (i < 0 ∨ (arrV _ _ _).slots.size ≤ _); rw [arrV_size]; exact hin) rfl rfl hd fun H1 e1 z oq => ?_
  refine kk p l e R s m args below meth cd H1 _ cells slots mc ms lz F hc hk hmc hms hL (hR.set hB z oq ?_) (by rw [z]; exact hz) (locs_add hl hB)
  show H1[a]? = some (vp_cell _ _)
  rw [e1]
  show some ((vp_cell _ _).setSlot _ _) = _
  rw [vp_cell_i, vp_cell_i, arrV_store]
  congr 2
  funext q
  by_cases hq : q = i.toNatClampNeg
  · subst hq
    simp [updV, upd, vp_updL, vf_upd, vp_nar]
    try rfl
  · simp [updV, upd, vp_updL, vf_upd, hq]
theorem ev_last {a n : Nat} {f : Nat → Int64} {i : Int32} {x : Int64} (hd : decode M.2.1 pc = .ok (.lastore, 1)) (ha : h a = some (.inl (4, (n, .inr (.inl f))))) (hB : gB g ≤ a) (hin : vp_in i n) (kk : Ev g M d c k Q (pc + 1) ls st (hs h a (.inl (4, (n, .inr (.inl (vp_updL f i.toNatClampNeg x))))))) : Ev g M d c k Q pc ls (.long x :: .int i :: .ref a :: st) h := by
  intro p l e R s m args below meth cd H locs cells slots mc ms lz F hc hk hmc hms hL hR hz hl
  refine W.last F.1 F.2.1 (hR.at hB ha) ((F.kn.2.1 4 .long rfl).1 n _) (fun q => by cases q) (by show ¬ (i < 0 ∨ (arrV _ _ _).slots.size ≤ _); rw [arrV_size]; exact hin) rfl rfl hd fun H1 e1 z oq => ?_
  refine kk p l e R s m args below meth cd H1 _ cells slots mc ms lz F hc hk hmc hms hL (hR.set hB z oq ?_) (by rw [z]; exact hz) (locs_add hl hB)
  show H1[a]? = some (vp_cell _ _)
  rw [e1]
  show some ((vp_cell _ _).setSlot _ _) = _
  rw [vp_cell_l, vp_cell_l, arrV_store]
  congr 2
  funext q
  by_cases hq : q = i.toNatClampNeg
  · subst hq
    simp [updV, upd, vp_updL, vf_upd, vp_nar]
    try rfl
  · simp [updV, upd, vp_updL, vf_upd, hq]
theorem ev_dast {a n : Nat} {f : Nat → UInt64} {i : Int32} {x : UInt64} (hd : decode M.2.1 pc = .ok (.dastore, 1)) (ha : h a = some (.inl (5, (n, .inr (.inr (.inr (.inl f))))))) (hB : gB g ≤ a) (hin : vp_in i n) (kk : Ev g M d c k Q (pc + 1) ls st (hs h a (.inl (5, (n, .inr (.inr (.inr (.inl (vf_upd f i.toNatClampNeg x))))))))) : Ev g M d c k Q pc ls (.double x :: .int i :: .ref a :: st) h := by
  intro p l e R s m args below meth cd H locs cells slots mc ms lz F hc hk hmc hms hL hR hz hl
  refine W.dast F.1 F.2.1 (hR.at hB ha) ((F.kn.2.1 5 .double rfl).1 n _) (fun q => by cases q) (by show ¬ (i < 0 ∨ (arrV _ _ _).slots.size ≤ _); rw [arrV_size]; exact hin) rfl rfl hd fun H1 e1 z oq => ?_
  refine kk p l e R s m args below meth cd H1 _ cells slots mc ms lz F hc hk hmc hms hL (hR.set hB z oq ?_) (by rw [z]; exact hz) (locs_add hl hB)
  show H1[a]? = some (vp_cell _ _)
  rw [e1]
  show some ((vp_cell _ _).setSlot _ _) = _
  rw [vp_cell_d, vp_cell_d, arrV_store]
  congr 2
  funext q
  by_cases hq : q = i.toNatClampNeg
  · subst hq
    simp [updV, upd, vp_updL, vf_upd, vp_nar]
    try rfl
  · simp [updV, upd, vp_updL, vf_upd, hq]
theorem ev_alen {a t : Nat} {ty : FieldType} {x : vp_A} (hd : decode M.2.1 pc = .ok (.arraylength, 1)) (ha : h a = some (.inl (t, x))) (ht : tyL[t]? = some ty) (kk : Ev g M d c k Q (pc + 1) ls (.int (Int32.ofNat x.1) :: st) h) : Ev g M d c k Q pc ls (.ref a :: st) h := by
  intro p l e R s m args below meth cd H locs cells slots mc ms lz F hc hk hmc hms hL hR hz hl
  obtain ⟨cell, q1, q2, q3, q5, q6, q7, q4⟩ := hR.rd ha
  obtain ⟨n, f | f | f | f | f⟩ := x
  · exact W.alen (n := Int32.ofNat n) F.1 F.2.1 q1 (arr_of (F.kn.2.1 t ty ht).1 q2 q5) q7 rfl rfl hd (kk p l e R s m args below meth cd H locs cells slots mc ms lz F hc hk hmc hms hL hR hz hl)
  · exact W.alen (n := Int32.ofNat n) F.1 F.2.1 q1 (arr_of (F.kn.2.1 t ty ht).1 q2 q5) q7 rfl rfl hd (kk p l e R s m args below meth cd H locs cells slots mc ms lz F hc hk hmc hms hL hR hz hl)
  · exact W.alen (n := Int32.ofNat n) F.1 F.2.1 q1 (arr_of (F.kn.2.1 t ty ht).1 q2 q5) q7 rfl rfl hd (kk p l e R s m args below meth cd H locs cells slots mc ms lz F hc hk hmc hms hL hR hz hl)
  · exact W.alen (n := Int32.ofNat n) F.1 F.2.1 q1 (arr_of (F.kn.2.1 t ty ht).1 q2 q5) q7 rfl rfl hd (kk p l e R s m args below meth cd H locs cells slots mc ms lz F hc hk hmc hms hL hR hz hl)
  · exact W.alen (n := Int32.ofNat n) F.1 F.2.1 q1 (arr_of (F.kn.2.1 t ty ht).1 q2 q5) q7 rfl rfl hd (kk p l e R s m args below meth cd H locs cells slots mc ms lz F hc hk hmc hms hL hR hz hl)
theorem ev_new {idx ci N c' k' : Nat} {C : String} {T : u_T} {tyf : Nat → FieldType} {fs : List Value} (hd : decode M.2.1 pc = .ok (.new idx, 3)) (hC : CF ci C T N tyf) (hw : (Jvm.Cond.classLink M.1.cls idx C) ∈ lw_all) (hi : (Jvm.Cond.instantiable C N) ∈ lw_all) (hn : (Jvm.Cond.initialized C) ∈ lw_all) (hfs : (List.range N).map (fun j => defaultValue (tyf j)) = fs) (h1 : c' + 1 ≤ c) (h2 : k' + N ≤ k) (kk : ∀ q : Nat, h q = none → gB g ≤ q → Ev g M d c' k' Q (pc + 3) ls (.ref q :: st) (hs h q (.inr (ci, fs)))) : Ev g M d c k Q pc ls st h := by
  intro p l e R s m args below meth cd H locs cells slots mc ms lz F hc hk hmc hms hL hR hz hl
  obtain ⟨c1, c2, c3, c4⟩ := hC
  have hKn := F.kn.1 ci _ c1
  refine W.newcK F.1 F.2.1 F.own (F.words _ hw) (F.words _ hi) (F.words _ hn) rfl hd (by omega) (by omega) hKn.2.1 rfl fun H1 kC hkC e1 z1 o1 => ?_
  refine kk H.size hR.fresh hR.1 p l e R s m args below meth cd H1 locs (cells + 1) (slots + N) mc ms lz F (by omega) (by omega) hmc hms hL (hR.push z1 o1 ?_) (by omega) hl
  refine ⟨_, c1, (u_born tyf F.words c2 hKn hkC e1 c3).to fun j hj => ?_⟩
  subst hfs
  simp [vp_V, hj]
theorem ev_new_int {n : Int32} {N c' k' : Nat} (hd : decode M.2.1 pc = .ok (.newarray .int, 2)) (hw : (Jvm.Cond.arrayClass .int) ∈ lw_all) (h0 : ¬ n < 0) (hN : n.toNatClampNeg = N) (hb : N ≤ 60000000) (h1 : c' + 1 ≤ c) (h2 : k' + N ≤ k) (kk : ∀ q : Nat, h q = none → gB g ≤ q → Ev g M d c' k' Q (pc + 2) ls (.ref q :: st) (hs h q (.inl (0, (N, .inl (fun _ => 0)))))) : Ev g M d c k Q pc ls (.int n :: st) h := by
  intro p l e R s m args below meth cd H locs cells slots mc ms lz F hc hk hmc hms hL hR hz hl
  have hcb : componentBytes (newarray.typeOf .int) ≤ 8 := by decide
  refine va_newaK (atype := .int) F.1 F.2.1 (F.words _ hw) rfl hd rfl h0 hN (Nat.le_trans (Nat.mul_le_mul_left N hcb) (by omega)) (by omega) (by omega) rfl fun H1 cA e1 z1 o1 hAr hNm => ?_
  have hcA : cA = g.2.1 0 := Option.some.inj (hNm.symm.trans (F.kn.2.1 0 .int rfl).2)
  subst hcA
  exact kk H.size hR.fresh hR.1 p l e R s m args below meth cd H1 locs (cells + 1) (slots + N) mc ms lz F (by omega) (by omega) hmc hms hL (hR.push z1 o1 e1) (by omega) hl
theorem ev_new_boolean {n : Int32} {N c' k' : Nat} (hd : decode M.2.1 pc = .ok (.newarray .boolean, 2)) (hw : (Jvm.Cond.arrayClass .boolean) ∈ lw_all) (h0 : ¬ n < 0) (hN : n.toNatClampNeg = N) (hb : N ≤ 60000000) (h1 : c' + 1 ≤ c) (h2 : k' + N ≤ k) (kk : ∀ q : Nat, h q = none → gB g ≤ q → Ev g M d c' k' Q (pc + 2) ls (.ref q :: st) (hs h q (.inl (1, (N, .inl (fun _ => 0)))))) : Ev g M d c k Q pc ls (.int n :: st) h := by
  intro p l e R s m args below meth cd H locs cells slots mc ms lz F hc hk hmc hms hL hR hz hl
  have hcb : componentBytes (newarray.typeOf .boolean) ≤ 8 := by decide
  refine va_newaK (atype := .boolean) F.1 F.2.1 (F.words _ hw) rfl hd rfl h0 hN (Nat.le_trans (Nat.mul_le_mul_left N hcb) (by omega)) (by omega) (by omega) rfl fun H1 cA e1 z1 o1 hAr hNm => ?_
  have hcA : cA = g.2.1 1 := Option.some.inj (hNm.symm.trans (F.kn.2.1 1 .boolean rfl).2)
  subst hcA
  exact kk H.size hR.fresh hR.1 p l e R s m args below meth cd H1 locs (cells + 1) (slots + N) mc ms lz F (by omega) (by omega) hmc hms hL (hR.push z1 o1 e1) (by omega) hl
theorem ev_new_byte {n : Int32} {N c' k' : Nat} (hd : decode M.2.1 pc = .ok (.newarray .byte, 2)) (hw : (Jvm.Cond.arrayClass .byte) ∈ lw_all) (h0 : ¬ n < 0) (hN : n.toNatClampNeg = N) (hb : N ≤ 60000000) (h1 : c' + 1 ≤ c) (h2 : k' + N ≤ k) (kk : ∀ q : Nat, h q = none → gB g ≤ q → Ev g M d c' k' Q (pc + 2) ls (.ref q :: st) (hs h q (.inl (2, (N, .inl (fun _ => 0)))))) : Ev g M d c k Q pc ls (.int n :: st) h := by
  intro p l e R s m args below meth cd H locs cells slots mc ms lz F hc hk hmc hms hL hR hz hl
  have hcb : componentBytes (newarray.typeOf .byte) ≤ 8 := by decide
  refine va_newaK (atype := .byte) F.1 F.2.1 (F.words _ hw) rfl hd rfl h0 hN (Nat.le_trans (Nat.mul_le_mul_left N hcb) (by omega)) (by omega) (by omega) rfl fun H1 cA e1 z1 o1 hAr hNm => ?_
  have hcA : cA = g.2.1 2 := Option.some.inj (hNm.symm.trans (F.kn.2.1 2 .byte rfl).2)
  subst hcA
  exact kk H.size hR.fresh hR.1 p l e R s m args below meth cd H1 locs (cells + 1) (slots + N) mc ms lz F (by omega) (by omega) hmc hms hL (hR.push z1 o1 e1) (by omega) hl
theorem ev_new_char {n : Int32} {N c' k' : Nat} (hd : decode M.2.1 pc = .ok (.newarray .char, 2)) (hw : (Jvm.Cond.arrayClass .char) ∈ lw_all) (h0 : ¬ n < 0) (hN : n.toNatClampNeg = N) (hb : N ≤ 60000000) (h1 : c' + 1 ≤ c) (h2 : k' + N ≤ k) (kk : ∀ q : Nat, h q = none → gB g ≤ q → Ev g M d c' k' Q (pc + 2) ls (.ref q :: st) (hs h q (.inl (3, (N, .inl (fun _ => 0)))))) : Ev g M d c k Q pc ls (.int n :: st) h := by
  intro p l e R s m args below meth cd H locs cells slots mc ms lz F hc hk hmc hms hL hR hz hl
  have hcb : componentBytes (newarray.typeOf .char) ≤ 8 := by decide
  refine va_newaK (atype := .char) F.1 F.2.1 (F.words _ hw) rfl hd rfl h0 hN (Nat.le_trans (Nat.mul_le_mul_left N hcb) (by omega)) (by omega) (by omega) rfl fun H1 cA e1 z1 o1 hAr hNm => ?_
  have hcA : cA = g.2.1 3 := Option.some.inj (hNm.symm.trans (F.kn.2.1 3 .char rfl).2)
  subst hcA
  exact kk H.size hR.fresh hR.1 p l e R s m args below meth cd H1 locs (cells + 1) (slots + N) mc ms lz F (by omega) (by omega) hmc hms hL (hR.push z1 o1 e1) (by omega) hl
theorem ev_new_long {n : Int32} {N c' k' : Nat} (hd : decode M.2.1 pc = .ok (.newarray .long, 2)) (hw : (Jvm.Cond.arrayClass .long) ∈ lw_all) (h0 : ¬ n < 0) (hN : n.toNatClampNeg = N) (hb : N ≤ 60000000) (h1 : c' + 1 ≤ c) (h2 : k' + N ≤ k) (kk : ∀ q : Nat, h q = none → gB g ≤ q → Ev g M d c' k' Q (pc + 2) ls (.ref q :: st) (hs h q (.inl (4, (N, .inr (.inl (fun _ => 0))))))) : Ev g M d c k Q pc ls (.int n :: st) h := by
  intro p l e R s m args below meth cd H locs cells slots mc ms lz F hc hk hmc hms hL hR hz hl
  have hcb : componentBytes (newarray.typeOf .long) ≤ 8 := by decide
  refine va_newaK (atype := .long) F.1 F.2.1 (F.words _ hw) rfl hd rfl h0 hN (Nat.le_trans (Nat.mul_le_mul_left N hcb) (by omega)) (by omega) (by omega) rfl fun H1 cA e1 z1 o1 hAr hNm => ?_
  have hcA : cA = g.2.1 4 := Option.some.inj (hNm.symm.trans (F.kn.2.1 4 .long rfl).2)
  subst hcA
  exact kk H.size hR.fresh hR.1 p l e R s m args below meth cd H1 locs (cells + 1) (slots + N) mc ms lz F (by omega) (by omega) hmc hms hL (hR.push z1 o1 e1) (by omega) hl
theorem ev_new_double {n : Int32} {N c' k' : Nat} (hd : decode M.2.1 pc = .ok (.newarray .double, 2)) (hw : (Jvm.Cond.arrayClass .double) ∈ lw_all) (h0 : ¬ n < 0) (hN : n.toNatClampNeg = N) (hb : N ≤ 60000000) (h1 : c' + 1 ≤ c) (h2 : k' + N ≤ k) (kk : ∀ q : Nat, h q = none → gB g ≤ q → Ev g M d c' k' Q (pc + 2) ls (.ref q :: st) (hs h q (.inl (5, (N, .inr (.inr (.inr (.inl (fun _ => 0))))))))) : Ev g M d c k Q pc ls (.int n :: st) h := by
  intro p l e R s m args below meth cd H locs cells slots mc ms lz F hc hk hmc hms hL hR hz hl
  have hcb : componentBytes (newarray.typeOf .double) ≤ 8 := by decide
  refine va_newaK (atype := .double) F.1 F.2.1 (F.words _ hw) rfl hd rfl h0 hN (Nat.le_trans (Nat.mul_le_mul_left N hcb) (by omega)) (by omega) (by omega) rfl fun H1 cA e1 z1 o1 hAr hNm => ?_
  have hcA : cA = g.2.1 5 := Option.some.inj (hNm.symm.trans (F.kn.2.1 5 .double rfl).2)
  subst hcA
  exact kk H.size hR.fresh hR.1 p l e R s m args below meth cd H1 locs (cells + 1) (slots + N) mc ms lz F (by omega) (by omega) hmc hms hL (hR.push z1 o1 e1) (by omega) hl
section
variable {x : Int32}
theorem ev_ireturn (hd : decode M.2.1 pc = .ok (.ireturn, 1)) (hr : M.2.2.2.1 = some .int) (hq : Q (.inl (some (.int x))) h) : Ev g M d c k Q pc ls [.int x] h := by
  intro p l e R s m args below meth cd H locs cells slots mc ms lz F hc hk hmc hms hL hR hz hl
  have hS := F.vaS hR hz hl
  refine W.widen (k := mc) (n := ms) (by omega) (by omega) (vx_ret ?_)
  exact W.iret F.1 F.2.1 (F.2.2.2.1.trans hr) (fun t ht hW => ⟨_, h, rfl, hq, by rw [ht]; exact hR, by rw [ht]; exact hz⟩) hl hd (hlocks := F.locks)
theorem ev_zreturn (hd : decode M.2.1 pc = .ok (.ireturn, 1)) {ty : FieldType} (hr : M.2.2.2.1 = some ty) (hn : narrow ty (.int x) = .int x) (hq : Q (.inl (some (.int x))) h) : Ev g M d c k Q pc ls [.int x] h := by
  intro p l e R s m args below meth cd H locs cells slots mc ms lz F hc hk hmc hms hL hR hz hl
  have hS := F.vaS hR hz hl
  refine W.widen (k := mc) (n := ms) (by omega) (by omega) (vx_ret ?_)
  exact W.zret F.1 F.2.1 (F.2.2.2.1.trans hr) hn (fun t ht hW => ⟨_, h, rfl, hq, by rw [ht]; exact hR, by rw [ht]; exact hz⟩) hl hd (hlocks := F.locks)
theorem ev_return (hd : decode M.2.1 pc = .ok (.return_, 1)) (hr : M.2.2.2.1 = none) (hq : Q (.inl none) h) : Ev g M d c k Q pc ls [] h := by
  intro p l e R s m args below meth cd H locs cells slots mc ms lz F hc hk hmc hms hL hR hz hl
  have hS := F.vaS hR hz hl
  refine W.widen (k := mc) (n := ms) (by omega) (by omega) (vx_ret ?_)
  exact W.vret F.1 F.2.1 (F.2.2.2.1.trans hr) (fun t ht hW => ⟨_, h, rfl, hq, by rw [ht]; exact hR, by rw [ht]; exact hz⟩) hl hd (hlocks := F.locks)
theorem ev_lreturn (hd : decode M.2.1 pc = .ok (.lreturn, 1)) {y : Int64} (hr : M.2.2.2.1 = some .long) (hq : Q (.inl (some (.long y))) h) : Ev g M d c k Q pc ls [.long y] h := by
  intro p l e R s m args below meth cd H locs cells slots mc ms lz F hc hk hmc hms hL hR hz hl
  have hS := F.vaS hR hz hl
  refine W.widen (k := mc) (n := ms) (by omega) (by omega) (vx_ret ?_)
  exact W.lret F.1 F.2.1 (F.2.2.2.1.trans hr) (fun t ht hW => ⟨_, h, rfl, hq, by rw [ht]; exact hR, by rw [ht]; exact hz⟩) hl hd (hlocks := F.locks)
theorem ev_freturn (hd : decode M.2.1 pc = .ok (.freturn, 1)) {y : UInt32} (hr : M.2.2.2.1 = some .float) (hq : Q (.inl (some (.float y))) h) : Ev g M d c k Q pc ls [.float y] h := by
  intro p l e R s m args below meth cd H locs cells slots mc ms lz F hc hk hmc hms hL hR hz hl
  have hS := F.vaS hR hz hl
  refine W.widen (k := mc) (n := ms) (by omega) (by omega) (vx_ret ?_)
  exact W.fret F.1 F.2.1 (F.2.2.2.1.trans hr) (fun t ht hW => ⟨_, h, rfl, hq, by rw [ht]; exact hR, by rw [ht]; exact hz⟩) hl hd (hlocks := F.locks)
theorem ev_dreturn (hd : decode M.2.1 pc = .ok (.dreturn, 1)) {y : UInt64} (hr : M.2.2.2.1 = some .double) (hq : Q (.inl (some (.double y))) h) : Ev g M d c k Q pc ls [.double y] h := by
  intro p l e R s m args below meth cd H locs cells slots mc ms lz F hc hk hmc hms hL hR hz hl
  have hS := F.vaS hR hz hl
  refine W.widen (k := mc) (n := ms) (by omega) (by omega) (vx_ret ?_)
  exact W.dret F.1 F.2.1 (F.2.2.2.1.trans hr) (fun t ht hW => ⟨_, h, rfl, hq, by rw [ht]; exact hR, by rw [ht]; exact hz⟩) hl hd (hlocks := F.locks)
theorem ev_areturn (hd : decode M.2.1 pc = .ok (.areturn, 1)) {v : Value} {ty : FieldType} (hr : M.2.2.2.1 = some ty) (hrt : (∃ n, ty = .object n) ∨ ∃ t, ty = .array t) (hv : v = .null ∨ ∃ a, v = .ref a) (hq : Q (.inl (some v)) h) : Ev g M d c k Q pc ls [v] h := by
  intro p l e R s m args below meth cd H locs cells slots mc ms lz F hc hk hmc hms hL hR hz hl
  have hS := F.vaS hR hz hl
  refine W.widen (k := mc) (n := ms) (by omega) (by omega) (vx_ret ?_)
  exact W.aret F.1 F.2.1 (F.2.2.2.1.trans hr) hrt hv (fun t ht hW => ⟨_, h, rfl, hq, by rw [ht]; exact hR, by rw [ht]; exact hz⟩) hl hd (hlocks := F.locks)
end
theorem ev_objInit {idx a : Nat} (hd : decode M.2.1 pc = .ok (.invokespecial idx, 3)) (h1 : (Jvm.Cond.methodLink M.1.cls idx objectInit) ∈ lw_all) (h2 : (Jvm.Cond.instanceMethod objectInit) ∈ lw_all) (h3 : (Jvm.Cond.code objectInit ⟨#[0xb1]⟩ 1 none) ∈ lw_all) (hdd : 1 ≤ d) (hst : st = []) (kk : Ev g M d c k Q (pc + 3) ls st h) : Ev g M d c k Q pc ls (.ref a :: st) h := by
  intro p l e R s m args below meth cd H locs cells slots mc ms lz F hc hk hmc hms hL hR hz hl
  subst hst
  have f1 := F.frames
  have f2 := F.room
  refine W.objInit F.1 F.2.1 F.own (F.words _ h1) (F.words _ h2) (F.words _ h3) rfl (by rw [F.2.2.1]; exact hL.1) rfl hd (by omega) (by show 12 ≤ R.locals; omega) ?_
  exact kk p l e R s m args below meth cd H locs cells slots mc ms lz F hc hk hmc hms hL hR hz hl
end LH

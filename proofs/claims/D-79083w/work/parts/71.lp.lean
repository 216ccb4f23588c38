/-! THE LOGIC for the component: rows are made and copied, class objects (printed by gen/mklp.py) -/
section LP
variable {g : GB} {M : MI} {d c k : Nat} {Q : RS → HM → Prop} {pc : Nat} {ls : List (Option Value)} {st : List Value} {h : HM}
theorem ev_aastN {a n : Nat} {f : Nat → Option Nat} {i : Int32} (hd : decode M.2.1 pc = .ok (.aastore, 1)) (ha : h a = some (.inl (9, (n, .inr (.inr (.inr (.inr f))))))) (hB : gB g ≤ a) (hin : vp_in i n) (kk : Ev g M d c k Q (pc + 1) ls st (hs h a (.inl (9, (n, .inr (.inr (.inr (.inr (va_up f i.toNatClampNeg none))))))))) : Ev g M d c k Q pc ls (.null :: .int i :: .ref a :: st) h := by
  intro p l e R s m args below meth cd H locs cells slots mc ms lz F hc hk hmc hms hL hR hz hl
  refine va_WaastN (C := "java/lang/Object") F.1 F.2.1 (hR.at hB ha) ((F.kn.2.1 9 _ rfl).1 n (fun j => va_rf (f j))) (fun h => by cases h) (by show ¬ (i < 0 ∨ (arrV _ _ _).slots.size ≤ _); rw [arrV_size]; exact hin) rfl rfl hd fun H1 e1 z oq => ?_
  refine kk p l e R s m args below meth cd H1 _ cells slots mc ms lz F hc hk hmc hms hL (hR.set hB z oq ?_) (by rw [z]; exact hz) (locs_add hl hB)
  show H1[a]? = some (vp_cell _ _)
  rw [e1]
  show some ((vp_cell _ _).setSlot _ _) = _
  rw [vp_cell_q, vp_cell_q, arrV_store, va_up_rf]
  rfl
/-- v is an object, or an array of a type of tyL -/
def isO (h : HM) (v : Nat) : Prop := (∃ x : Nat × List Value, h v = some (.inr x)) ∨ ∃ x : Nat × vp_A, h v = some (.inl x) ∧ x.1 < 11
theorem vp_cell_vm (cA : ClassId) (x : vp_A) : (vp_cell cA x).vm = .none ∧ (vp_cell cA x).cls = cA := by
  obtain ⟨n, f | f | f | f | f⟩ := x <;> exact ⟨rfl, rfl⟩
theorem any_O {v : Nat} (hv : isO h v) : ∀ (s : State) (H : Heap), g.2.2.2.1 s → KnG g s → NW s → Rel g h H → va_Any "java/lang/Object" s H v := by
  intro s H _ hK hN hR
  rcases hv with ⟨⟨ci, fs⟩, hx⟩ | ⟨⟨t, y⟩, hx, ht⟩
  · obtain ⟨r, h1, cell, g1, g2, -, -, g3, -⟩ := hR.rd hx
    have hk := (hK.1 ci _ h1).2
    obtain ⟨kC, hkC, -⟩ := Vm.findClass_spec hk.1
    refine ⟨cell, g1, g3, ⟨kC, by rw [g2]; exact hkC⟩, fun comp hcomp => ?_⟩
    obtain ⟨c0, t0, f1, f2, f3⟩ := Cond.castable_spec (args := #[]) (hN _ (cO ci r h1) rfl)
    cases hk.1.symm.trans f1
    cases hcomp.symm.trans f2
    rw [g2]
    exact f3
  · have hlt : t < tyL.length := ht
    have hty : tyL[t]? = some tyL[t] := List.getElem?_eq_getElem hlt
    have hfc := (hK.2.1 t _ hty).2
    obtain ⟨cell, g1, hcl, -, g3, -⟩ := hR.rd hx
    obtain ⟨kC, hkC, -⟩ := Vm.findClass_spec hfc
    refine ⟨cell, g1, g3, ⟨kC, by rw [hcl]; exact hkC⟩, fun comp hcomp => ?_⟩
    obtain ⟨c0, t0, f1, f2, f3⟩ := Cond.castable_spec (args := #[]) (hN _ (cOA t _ hty) rfl)
    cases hfc.symm.trans f1
    cases hcomp.symm.trans f2
    rw [hcl]
    exact f3
/-- an int array among int arrays -/
theorem any_I {v t : Nat} {ty : FieldType} {x : vp_A} (hv : h v = some (.inl (t, x))) (ht : tyL[t]? = some ty) : ∀ (s : State) (H : Heap), g.2.2.2.1 s → KnG g s → NW s → Rel g h H → va_Any (cnm (.array ty)) s H v := by
  intro s H _ hK hN hR
  have hfc := (hK.2.1 t ty ht).2
  obtain ⟨cell, g1, hcl, -, g3, -⟩ := hR.rd hv
  obtain ⟨kC, hkC, -⟩ := Vm.findClass_spec hfc
  refine ⟨cell, g1, g3, ⟨kC, by rw [hcl]; exact hkC⟩, fun comp hcomp => ?_⟩
  have e : cnm (.array ty) = "[" ++ ty.toString := rfl
  rw [e] at hcomp
  cases hfc.symm.trans hcomp
  rw [hcl]
  exact va_asg _ _
theorem ao_args {ty : FieldType} {A A' : Array Value} {s : State} (h : (Cond.arrayOver ty).before A s = true) : (Cond.arrayOver ty).before A' s = true := by
  simp only [Cond.before, Cond.holds, Cond.value] at h ⊢
  exact h
/-! rows of references are made -/
theorem ev_anewO {idx c' k' N : Nat} {n : Int32} (hG : GKx g) (hd : decode M.2.1 pc = .ok (.anewarray idx, 3)) (hw : (Jvm.Cond.classLink M.1.cls idx "java/lang/Object") ∈ lw_all) (h0 : ¬ n < 0) (hN : n.toNatClampNeg = N) (hb : N ≤ 100000000) (h1 : c' + 1 ≤ c) (h2 : k' + N ≤ k) (kk : ∀ q : Nat, h q = none → gB g ≤ q → Ev g M d c' k' Q (pc + 3) ls (.ref q :: st) (hs h q (.inl (9, (N, .inr (.inr (.inr (.inr (fun _ => none)))))))))  : Ev g M d c k Q pc ls (.int n :: st) h := by
  intro p l e R s m args below meth cd H locs cells slots mc ms lz F hc hk hmc hms hL hR hz hl
  subst hN
  refine W.anew (C := "java/lang/Object") F.1 F.2.1 F.own (F.words _ hw) (va_AO.use (C := "java/lang/Object") ((hG s F.gk).1 _ q272 rfl)) rfl hd rfl h0 (by omega) (by omega) (by omega) fun cA kA comp f1 f2 f3 f4 => ?_
  cases (Option.some.inj (f1.symm.trans (F.kn.2.1 9 _ rfl).2))
  refine kk H.size hR.fresh hR.1 p l e R s m args below meth cd _ locs (cells + 1) (slots + n.toNatClampNeg) mc ms lz F (by omega) (by omega) hmc hms hL (hR.push (by rw [Array.size_push]) (fun q hq => by rw [Array.getElem?_push, if_neg (Nat.ne_of_lt hq)]) ?_) (by rw [Array.size_push]; omega) hl
  show (H.push _)[H.size]? = some (vp_cell _ _)
  rw [vp_cell_q, Array.getElem?_push_size, ← arrV_new]
  rfl
theorem ev_anewR {idx c' k' N : Nat} {n : Int32} (hG : GKx g) (hd : decode M.2.1 pc = .ok (.anewarray idx, 3)) (hw : (Jvm.Cond.classLink M.1.cls idx "DanceNotation$StepRule") ∈ lw_all) (h0 : ¬ n < 0) (hN : n.toNatClampNeg = N) (hb : N ≤ 100000000) (h1 : c' + 1 ≤ c) (h2 : k' + N ≤ k) (kk : ∀ q : Nat, h q = none → gB g ≤ q → Ev g M d c' k' Q (pc + 3) ls (.ref q :: st) (hs h q (.inl (10, (N, .inr (.inr (.inr (.inr (fun _ => none)))))))))  : Ev g M d c k Q pc ls (.int n :: st) h := by
  intro p l e R s m args below meth cd H locs cells slots mc ms lz F hc hk hmc hms hL hR hz hl
  subst hN
  refine W.anew (C := "DanceNotation$StepRule") F.1 F.2.1 F.own (F.words _ hw) (va_AO.use (C := "DanceNotation$StepRule") ((hG s F.gk).1 _ q1145 rfl)) rfl hd rfl h0 (by omega) (by omega) (by omega) fun cA kA comp f1 f2 f3 f4 => ?_
  cases (Option.some.inj (f1.symm.trans (F.kn.2.1 10 _ rfl).2))
  refine kk H.size hR.fresh hR.1 p l e R s m args below meth cd _ locs (cells + 1) (slots + n.toNatClampNeg) mc ms lz F (by omega) (by omega) hmc hms hL (hR.push (by rw [Array.size_push]) (fun q hq => by rw [Array.getElem?_push, if_neg (Nat.ne_of_lt hq)]) ?_) (by rw [Array.size_push]; omega) hl
  show (H.push _)[H.size]? = some (vp_cell _ _)
  rw [vp_cell_q, Array.getElem?_push_size, ← arrV_new]
  rfl
theorem ev_anewI {idx c' k' N : Nat} {n : Int32} (hG : GKx g) (hd : decode M.2.1 pc = .ok (.anewarray idx, 3)) (hw : (Jvm.Cond.classLink M.1.cls idx "[I") ∈ lw_all) (h0 : ¬ n < 0) (hN : n.toNatClampNeg = N) (hb : N ≤ 100000000) (h1 : c' + 1 ≤ c) (h2 : k' + N ≤ k) (kk : ∀ q : Nat, h q = none → gB g ≤ q → Ev g M d c' k' Q (pc + 3) ls (.ref q :: st) (hs h q (.inl (6, (N, .inr (.inr (.inr (.inr (fun _ => none)))))))))  : Ev g M d c k Q pc ls (.int n :: st) h := by
  intro p l e R s m args below meth cd H locs cells slots mc ms lz F hc hk hmc hms hL hR hz hl
  subst hN
  have hw2 : (Cond.arrayOver (.array .int)).before args s = true := ao_args ((hG s F.gk).1 _ q192 rfl)
  refine W.anewA (t := .int) F.1 F.2.1 F.own (F.words _ hw) hw2 rfl hd rfl h0 (by omega) (by omega) (by omega) fun cA kA comp f1 f2 f3 f4 => ?_
  cases (Option.some.inj (f1.symm.trans (F.kn.2.1 6 _ rfl).2))
  refine kk H.size hR.fresh hR.1 p l e R s m args below meth cd _ locs (cells + 1) (slots + n.toNatClampNeg) mc ms lz F (by omega) (by omega) hmc hms hL (hR.push (by rw [Array.size_push]) (fun q hq => by rw [Array.getElem?_push, if_neg (Nat.ne_of_lt hq)]) ?_) (by rw [Array.size_push]; omega) hl
  show (H.push _)[H.size]? = some (vp_cell _ _)
  rw [vp_cell_q, Array.getElem?_push_size, ← arrV_new]
  rfl
theorem cell_ext {a b : Cell} (h1 : a.cls = b.cls) (h2 : a.vm = b.vm) (h3 : a.slots = b.slots) (h4 : a.monitor = b.monitor) (h5 : a.hash = b.hash) : a = b := by
  cases a
  cases b
  cases h1
  cases h2
  cases h3
  cases h4
  cases h5
  rfl
theorem outerC_mh (cA : ClassId) (N h0 : Nat) : ∀ i, (Jvm.Free.Multi.outerC cA N h0 i).monitor = (Jvm.Free.Multi.outerC cA N h0 0).monitor ∧ (Jvm.Free.Multi.outerC cA N h0 i).hash = (Jvm.Free.Multi.outerC cA N h0 0).hash := by
  intro i
  induction i with
  | zero => exact ⟨rfl, rfl⟩
  | succ i ih => exact ih
/-! rows of rows -/
/-- a heap with a row of N rows, made at q -/
def hsM (h : HM) (q t u N : Nat) (x : vp_A) : HM := fun y => if y = q then some (.inl (t, (N, .inr (.inr (.inr (.inr (fun j => if j < N then some (q + 1 + j) else none))))))) else if q < y ∧ y ≤ q + N then some (.inl (u, x)) else h y
theorem ev_multi {idx c' k' N K t u q0 : Nat} {ty : FieldType} {x : vp_A} {n kz : Int32} (hG : GKx g) (hd : decode M.2.1 pc = .ok (.multianewarray idx 2, 4)) (hw : (Jvm.Cond.classLink M.1.cls idx ("[" ++ (FieldType.array ty).toString)) ∈ lw_all) (ho : (Jvm.Cond.arrayOver (.array ty)) ∈ lw_tbl) (hac : (Jvm.Cond.arrayClass ty) ∈ lw_all)
    (ht : tyL[t]? = some (.array ty)) (hu : tyL[u]? = some ty) (hdf : fits ty (defaultValue ty) = true) (hdd : (defaultValue ty).isDefault = true) (hcb : componentBytes ty ≤ 8)
    (hx : ∀ cA : ClassId, vp_cell cA x = Jvm.Free.Multi.innerC cA K (defaultValue ty))
    (hn0 : ¬ n < 0) (hk0 : ¬ kz < 0) (hN : n.toNatClampNeg = N) (hK : kz.toNatClampNeg = K) (hb : N ≤ 10000 ∧ K ≤ 10000) (h1 : c' + 1 + N ≤ c) (h2 : k' + N + N * K ≤ k)
    (kk : ∀ q : Nat, (∀ j, j ≤ N → h (q + j) = none) → gB g ≤ q → Ev g M d c' k' Q (pc + 4) ls (.ref q :: st) (hsM h q t u N x)) : Ev g M d c k Q pc ls (.int kz :: .int n :: st) h := by
  intro p l e R s m args below meth cd H locs cells slots mc ms lz F hc hk hmc hms hL hR hz hl
  subst hN; subst hK
  have hw2 : (Cond.arrayOver (.array ty)).before args s = true := ao_args ((hG s F.gk).1 _ ho rfl)
  intro T hT X
  obtain ⟨vm₁, cA, comp, hW, hfA, hfC, hO, hI, X1, step⟩ := X.multianewarray2F F.1 F.own (F.words _ hw) hw2 (F.words _ hac) (g := F0 m pc lz (.int kz :: .int n :: st)) rfl (by rw [F.2.1]; exact hd) rfl hn0 hk0 (by omega) (Nat.le_trans (Nat.mul_le_mul_left _ hcb) (by omega)) (by omega) hdf hdd (by omega) (by omega)
  cases (Option.some.inj (hfA.symm.trans (F.kn.2.1 t _ ht).2))
  have hfC' : s.vm.findClass ("[" ++ ty.toString) = some comp := hfC
  cases (Option.some.inj (hfC'.symm.trans (F.kn.2.1 u _ hu).2))
  have hvm : (T.setVm vm₁).heap = H := hT
  generalize hF : Jvm.Free.Multi.fill (T.setVm vm₁) (g.2.1 t) (g.2.1 u) n.toNatClampNeg kz.toNatClampNeg (defaultValue ty) n.toNatClampNeg = T1 at X1 step
  obtain ⟨z1, z2, -, -⟩ := Jvm.Free.Multi.fill_facts (T.setVm vm₁) (g.2.1 t) (g.2.1 u) n.toNatClampNeg kz.toNatClampNeg (defaultValue ty) n.toNatClampNeg
  rw [hF, hvm] at z1
  rw [hF, hvm] at z2
  have old : ∀ q : Nat, q < H.size → T1.heap[q]? = H[q]? := fun q hq => by
    have := Jvm.Free.Multi.fill_old (T.setVm vm₁) (g.2.1 t) (g.2.1 u) n.toNatClampNeg kz.toNatClampNeg (defaultValue ty) (a := q) (by rw [hvm]; exact hq) n.toNatClampNeg
    rw [hF, hvm] at this
    exact this
  have inn : ∀ j : Nat, j < n.toNatClampNeg → T1.heap[H.size + 1 + j]? = some (Jvm.Free.Multi.innerC (g.2.1 u) kz.toNatClampNeg (defaultValue ty)) := fun j hj => by
    have := Jvm.Free.Multi.fill_inner (T.setVm vm₁) (g.2.1 t) (g.2.1 u) n.toNatClampNeg kz.toNatClampNeg (defaultValue ty) n.toNatClampNeg j hj
    rw [hF, hvm] at this
    exact this
  have hRel : Rel g (hsM h H.size t u n.toNatClampNeg x) T1.heap := by
    refine ⟨by rw [z1]; have := hR.1; omega, fun q hq => by have := hR.1; rw [old q (by omega)]; exact hR.2.1 q hq, fun q e' hq => ?_⟩
    unfold hsM at hq
    by_cases q1 : q = H.size
    · rw [if_pos q1] at hq
      cases hq
      subst q1
      refine (fun z : va_at g.1 clG (H.size, toE g (.inl (t, (n.toNatClampNeg, .inr (.inr (.inr (.inr (fun j => if j < n.toNatClampNeg then some (H.size + 1 + j) else none)))))))) T1.heap => (⟨rd_of z, fun _ => z⟩ : _ ∧ _)) ?_
      show T1.heap[H.size]? = some (vp_cell _ _)
      rw [z2, vp_cell_q]
      congr 1
      obtain ⟨o1, o2, o3⟩ := Jvm.Free.Multi.outerC_facts (g.2.1 t) n.toNatClampNeg H.size n.toNatClampNeg
      refine cell_ext o1 o2 (Array.ext_getElem? fun j => ?_) (outerC_mh _ _ _ _).1 (outerC_mh _ _ _ _).2
      by_cases hj : j < n.toNatClampNeg
      · rw [Jvm.Free.Multi.outerC_slot _ _ _ _ _ hj, if_pos hj, arrV_read _ _ hj, if_pos hj]
        rfl
      · rw [Array.getElem?_eq_none (by rw [o3]; omega), Array.getElem?_eq_none (by rw [arrV_size]; omega)]
    · rw [if_neg q1] at hq
      by_cases q2 : H.size < q ∧ q ≤ H.size + n.toNatClampNeg
      · rw [if_pos q2] at hq
        cases hq
        refine (fun z : va_at g.1 clG (q, toE g (.inl (u, x))) T1.heap => (⟨rd_of z, fun _ => z⟩ : _ ∧ _)) ?_
        show T1.heap[q]? = some (vp_cell _ _)
        rw [hx, ← inn (q - (H.size + 1)) (by omega)]
        congr 1
        omega
      · rw [if_neg q2] at hq
        exact ⟨(hR.2.2 q e' hq).1.kept (old q (hR.lt hq)), fun hB => ((hR.2.2 q e' hq).2 hB).kept (old q (hR.lt hq))⟩
  have fr : ∀ j, j ≤ n.toNatClampNeg → h (H.size + j) = none := fun j _ => by
    cases hc : h (H.size + j) with
    | none => rfl
    | some e' => exact absurd (hR.lt hc) (by omega)
  obtain ⟨t2, a1, b1⟩ := kk H.size fr hR.1 p l e R s m args below meth cd T1.heap locs _ _ mc ms lz F (by omega) (by omega) hmc hms hL hRel (by rw [z1]; omega) hl T1 rfl X1
  have e0 : T.heap.size = H.size := by rw [hT]
  rw [e0] at step
  exact ⟨t2, step _ a1, b1⟩
/-! System.arraycopy -/
theorem ev_copyi {idx a0 a t n0 n1 : Nat} {ty : FieldType} {f f1 : Nat → Int32} {sp dp n : Int32} (hd : decode M.2.1 pc = .ok (.invokestatic idx, 3)) (hlk : (Jvm.Cond.methodLink M.1.cls idx arraycopyName) ∈ lw_all) (ha0 : h a0 = some (.inl (t, (n0, .inl f)))) (ha : h a = some (.inl (t, (n1, .inl f1)))) (ht : tyL[t]? = some ty) (hprim : refKind ty = false) (hB : gB g ≤ a)
    (h1 : ¬ sp < 0) (h2 : ¬ dp < 0) (h3 : ¬ n < 0) (h4 : sp.toNatClampNeg + n.toNatClampNeg ≤ n0) (h5 : dp.toNatClampNeg + n.toNatClampNeg ≤ n1) (hfit : ∀ i : Nat, i < n.toNatClampNeg → fits ty (.int (f (sp.toNatClampNeg + i))) = true) (hdd : 1 ≤ d) (hW8 : (st.map fun v => v.category).sum ≤ 8)
    (kk : Ev g M d c k Q (pc + 3) ls st (hs h a (.inl (t, (n1, .inl (va_cpy f f1 sp.toNatClampNeg dp.toNatClampNeg n.toNatClampNeg)))))) : Ev g M d c k Q pc ls (.int n :: .int dp :: .ref a :: .int sp :: .ref a0 :: st) h := by
  intro p l e R s m args below meth cd H locs cells slots mc ms lz F hc hk hmc hms hL hR hz hl
  have nn : ∀ z : Int32, ¬ z < 0 → z.toInt = (z.toNatClampNeg : Int) := by
    intro z hz
    have hz0 : (0 : Int) ≤ z.toInt := by
      have := Int32.not_lt.mp hz
      simpa using Int32.le_iff_toInt_le.mp this
    show z.toInt = ((z.toInt.toNat : Nat) : Int)
    omega
  intro T hT X
  have fr1 := F.frames
  have fr2 := F.room
  obtain ⟨ce0, hc0, ec0, en0, es0, sz0, -, el0⟩ := hR.rd ha0
  replace sz0 : n0 ≤ ce0.slots.size := sz0
  replace el0 : ∀ j : Nat, j < n0 → ce0.slots[j]? = _ := el0
  have hc1 : H[a]? = some (vp_cell (g.2.1 t) (n1, .inl f1)) := hR.at hB ha
  obtain ⟨-, k0, hk0, cm0, hkk0⟩ := (F.kn.2.1 t ty ht).1 n0 (fun j => .int (f j))
  obtain ⟨-, k1, hk1, cm1, hkk1⟩ := (F.kn.2.1 t ty ht).1 n1 (fun j => .int (f1 j))
  have hwd : nativeFrameWords "java/lang/System" "arraycopy" 5 + 11 ≤ 30 := by decide
  obtain ⟨vm', X', step⟩ := X.arraycopy F.1 F.own (F.words _ hlk) (F.words _ q477) (F.words _ q476) (F.words _ q140) (src := a0) (dst := a) (cs := ce0) (cd := vp_cell (g.2.1 t) (n1, .inl f1)) (srcPos := sp) (destPos := dp) (n := n) (by rw [hT]; exact hc0) (by rw [hT]; exact hc1)
    (fun _ h => by rw [h] at es0; cases es0) (fun _ h => by cases h) en0 (fun h => by cases h) (by rw [ec0]; exact hk0) hk1 hkk0 hkk1 (by simp [hprim]) h1 h2 h3
    (by rw [nn sp h1, nn n h3]; omega)
    (by rw [nn dp h2, nn n h3]; show ¬ _ > ((arrV (g.2.1 t) n1 (fun j => .int (f1 j))).slots.size : Int); rw [arrV_size]; omega)
    (fun vm₁ _ i hi => by
      have e : ce0.slots.getD (sp.toNatClampNeg + i) .null = .int (f (sp.toNatClampNeg + i)) := by
        rw [Array.getD_eq_getD_getElem?, el0 _ (by omega)]
        show ((arrV (g.2.1 t) n0 (fun j => .int (f j))).slots[_]?).getD _ = _
        rw [arrV_read _ _ (by omega)]
        rfl
      refine ⟨?_, ?_⟩
      · rw [e]
        exact hfit i hi
      · rw [e]
        exact trivial)
    (g := F0 m pc lz (.int n :: .int dp :: .ref a :: .int sp :: .ref a0 :: st)) rfl (by rw [F.2.2.1]; exact hL.1) (rest := st) rfl (by rw [F.2.1]; exact hd) (by omega) (by show 2 * 0 + _ + _ ≤ _; omega)
  have e0 : copied ce0 (vp_cell (g.2.1 t) (n1, .inl f1)) sp dp n = copied (vp_cell (g.2.1 t) (n0, .inl f)) (vp_cell (g.2.1 t) (n1, .inl f1)) sp dp n := by
    show Cell.storeRun _ _ (Cell.stretch ce0 _ _) = Cell.storeRun _ _ (Cell.stretch _ _ _)
    congr 1
    unfold Cell.stretch
    apply List.map_congr_left
    intro i hi
    have hi2 := List.mem_range.mp hi
    rw [Array.getD_eq_getD_getElem?, Array.getD_eq_getD_getElem?, el0 _ (by omega)]
  rw [e0] at X' step
  have e1 : copied (vp_cell (g.2.1 t) (n0, .inl f)) (vp_cell (g.2.1 t) (n1, .inl f1)) sp dp n = vp_cell (g.2.1 t) (n1, .inl (va_cpy f f1 sp.toNatClampNeg dp.toNatClampNeg n.toNatClampNeg)) := va_copied (fun z => .int z) (g.2.1 t) (g.2.1 t) f f1 h4
  rw [e1] at X' step
  have hlt : a < H.size := (Array.getElem?_eq_some_iff.mp hc1).1
  generalize hcell : vp_cell (g.2.1 t) (n1, .inl (va_cpy f f1 sp.toNatClampNeg dp.toNatClampNeg n.toNatClampNeg)) = cl1 at X' step
  have hheap : ((T.setVm vm').setCell a cl1).heap = H.setIfInBounds a cl1 := by rw [← hT]; rfl
  have oq : ∀ q : Nat, q ≠ a → (H.setIfInBounds a cl1)[q]? = H[q]? := fun q hq => by simp [Array.getElem?_setIfInBounds, Ne.symm hq]
  obtain ⟨t2, a1, b1⟩ := kk p l e R s m args below meth cd (H.setIfInBounds a cl1) _ cells slots mc ms lz F hc hk hmc hms hL (hR.set hB (by simp) oq (by show (H.setIfInBounds a cl1)[a]? = some (vp_cell _ _); rw [hcell]; simp [Array.getElem?_setIfInBounds, hlt])) (by simp; exact hz)
    (fun q hq => by
      rcases List.mem_append.mp hq with h | h
      · exact hl q h
      · obtain ⟨z, -, hz⟩ := List.mem_map.mp h
        rw [← hz]
        exact hB) _ hheap X'
  exact ⟨t2, step t2 a1, b1⟩
theorem ev_copyq {idx a0 a n0 n1 : Nat} {f f1 : Nat → Option Nat} {sp dp n : Int32} (hd : decode M.2.1 pc = .ok (.invokestatic idx, 3)) (hlk : (Jvm.Cond.methodLink M.1.cls idx arraycopyName) ∈ lw_all) (ha0 : h a0 = some (.inl (9, (n0, .inr (.inr (.inr (.inr f))))))) (ha : h a = some (.inl (9, (n1, .inr (.inr (.inr (.inr f1))))))) (hB : gB g ≤ a)
    (h1 : ¬ sp < 0) (h2 : ¬ dp < 0) (h3 : ¬ n < 0) (h4 : sp.toNatClampNeg + n.toNatClampNeg ≤ n0) (h5 : dp.toNatClampNeg + n.toNatClampNeg ≤ n1) (hel : ∀ i : Nat, i < n.toNatClampNeg → ∀ y : Nat, f (sp.toNatClampNeg + i) = some y → isO h y) (hdd : 1 ≤ d) (hW8 : (st.map fun v => v.category).sum ≤ 8)
    (kk : Ev g M d c k Q (pc + 3) ls st (hs h a (.inl (9, (n1, .inr (.inr (.inr (.inr (va_cpy f f1 sp.toNatClampNeg dp.toNatClampNeg n.toNatClampNeg))))))))) : Ev g M d c k Q pc ls (.int n :: .int dp :: .ref a :: .int sp :: .ref a0 :: st) h := by
  intro p l e R s m args below meth cd H locs cells slots mc ms lz F hc hk hmc hms hL hR hz hl
  have nn : ∀ z : Int32, ¬ z < 0 → z.toInt = (z.toNatClampNeg : Int) := by
    intro z hz
    have hz0 : (0 : Int) ≤ z.toInt := by
      have := Int32.not_lt.mp hz
      simpa using Int32.le_iff_toInt_le.mp this
    show z.toInt = ((z.toInt.toNat : Nat) : Int)
    omega
  intro T hT X
  have fr1 := F.frames
  have fr2 := F.room
  obtain ⟨ce0, hc0, ec0, en0, es0, sz0, -, el0⟩ := hR.rd ha0
  replace sz0 : n0 ≤ ce0.slots.size := sz0
  replace el0 : ∀ j : Nat, j < n0 → ce0.slots[j]? = _ := el0
  have hc1 : H[a]? = some (vp_cell (g.2.1 9) (n1, .inr (.inr (.inr (.inr f1))))) := hR.at hB ha
  obtain ⟨-, k0, hk0, cm0, hkk0⟩ := (F.kn.2.1 9 _ rfl).1 n0 (fun j => va_rf (f j))
  obtain ⟨-, k1, hk1, cm1, hkk1⟩ := (F.kn.2.1 9 _ rfl).1 n1 (fun j => va_rf (f1 j))
  have hwd : nativeFrameWords "java/lang/System" "arraycopy" 5 + 11 ≤ 30 := by decide
  obtain ⟨vm', X', step⟩ := X.arraycopy F.1 F.own (F.words _ hlk) (F.words _ q477) (F.words _ q476) (F.words _ q140) (src := a0) (dst := a) (cs := ce0) (cd := vp_cell (g.2.1 9) (n1, .inr (.inr (.inr (.inr f1))))) (srcPos := sp) (destPos := dp) (n := n) (by rw [hT]; exact hc0) (by rw [hT]; exact hc1)
    (fun _ h => by rw [h] at es0; cases es0) (fun _ h => by cases h) en0 (fun h => by cases h) (by rw [ec0]; exact hk0) hk1 hkk0 hkk1 rfl h1 h2 h3
    (by rw [nn sp h1, nn n h3]; omega)
    (by rw [nn dp h2, nn n h3]; show ¬ _ > ((arrV (g.2.1 9) n1 (fun j => va_rf (f1 j))).slots.size : Int); rw [arrV_size]; omega)
    (fun vm₁ hal i hi => by
      have e : ce0.slots.getD (sp.toNatClampNeg + i) .null = va_rf (f (sp.toNatClampNeg + i)) := by
        rw [Array.getD_eq_getD_getElem?, el0 _ (by omega)]
        show ((arrV (g.2.1 9) n0 (fun j => va_rf (f j))).slots[_]?).getD _ = _
        rw [arrV_read _ _ (by omega)]
        rfl
      rw [e]
      cases hy : f (sp.toNatClampNeg + i) with
      | none => exact ⟨rfl, trivial⟩
      | some y =>
        obtain ⟨cellV, g1, g2, ⟨kC, hkC⟩, g3⟩ := any_O (hel i hi y hy) s H F.gk F.kn F.nw hR
        obtain ⟨kA, comp, kE, r1, r2, r3, hkE⟩ := F.kn.2.2 9 _ rfl rfl
        cases hk1.symm.trans r1
        cases hkk1.symm.trans r2
        obtain ⟨kC', hkC', -⟩ := hal.2.2 _ _ hkC
        obtain ⟨kE', hkE', -⟩ := hal.2.2 _ _ hkE
        refine ⟨rfl, cellV, (show T.heap[y]? = some cellV by rw [hT]; exact g1), (fun q h => by rw [h] at g2; cases g2), ⟨kC', hkC'⟩, ?_, ?_⟩
        · exact ⟨kE', hkE'⟩
        · show vm₁.assignable _ _ = true
          rw [hal.assignable]
          exact g3 _ r3)
    (g := F0 m pc lz (.int n :: .int dp :: .ref a :: .int sp :: .ref a0 :: st)) rfl (by rw [F.2.2.1]; exact hL.1) (rest := st) rfl (by rw [F.2.1]; exact hd) (by omega) (by show 2 * 0 + _ + _ ≤ _; omega)
  have e0 : copied ce0 (vp_cell (g.2.1 9) (n1, .inr (.inr (.inr (.inr f1))))) sp dp n = copied (vp_cell (g.2.1 9) (n0, .inr (.inr (.inr (.inr f))))) (vp_cell (g.2.1 9) (n1, .inr (.inr (.inr (.inr f1))))) sp dp n := by
    show Cell.storeRun _ _ (Cell.stretch ce0 _ _) = Cell.storeRun _ _ (Cell.stretch _ _ _)
    congr 1
    unfold Cell.stretch
    apply List.map_congr_left
    intro i hi
    have hi2 := List.mem_range.mp hi
    rw [Array.getD_eq_getD_getElem?, Array.getD_eq_getD_getElem?, el0 _ (by omega)]
  rw [e0] at X' step
  have e1 : copied (vp_cell (g.2.1 9) (n0, .inr (.inr (.inr (.inr f))))) (vp_cell (g.2.1 9) (n1, .inr (.inr (.inr (.inr f1))))) sp dp n = vp_cell (g.2.1 9) (n1, .inr (.inr (.inr (.inr (va_cpy f f1 sp.toNatClampNeg dp.toNatClampNeg n.toNatClampNeg))))) := by
    rw [vp_cell_q, vp_cell_q, vp_cell_q]
    exact va_copied (fun z => va_rf z) (g.2.1 9) (g.2.1 9) f f1 h4
  rw [e1] at X' step
  have hlt : a < H.size := (Array.getElem?_eq_some_iff.mp hc1).1
  generalize hcell : vp_cell (g.2.1 9) (n1, .inr (.inr (.inr (.inr (va_cpy f f1 sp.toNatClampNeg dp.toNatClampNeg n.toNatClampNeg))))) = cl1 at X' step
  have hheap : ((T.setVm vm').setCell a cl1).heap = H.setIfInBounds a cl1 := by rw [← hT]; rfl
  have oq : ∀ q : Nat, q ≠ a → (H.setIfInBounds a cl1)[q]? = H[q]? := fun q hq => by simp [Array.getElem?_setIfInBounds, Ne.symm hq]
  obtain ⟨t2, a1, b1⟩ := kk p l e R s m args below meth cd (H.setIfInBounds a cl1) _ cells slots mc ms lz F hc hk hmc hms hL (hR.set hB (by simp) oq (by show (H.setIfInBounds a cl1)[a]? = some (vp_cell _ _); rw [hcell]; simp [Array.getElem?_setIfInBounds, hlt])) (by simp; exact hz)
    (fun q hq => by
      rcases List.mem_append.mp hq with h | h
      · exact hl q h
      · obtain ⟨z, -, hz⟩ := List.mem_map.mp h
        rw [← hz]
        exact hB) _ hheap X'
  exact ⟨t2, step t2 a1, b1⟩
end LP

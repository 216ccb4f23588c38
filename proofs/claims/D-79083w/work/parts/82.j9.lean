/-! THE COMPONENT: texts and builders (printed by gen) -/
section J9S
variable {g : GB} {M : MI} {d c k : Nat} {h : HM}
/-- the bytes A hold the text t -/
def btA (A : Nat → Int) (cap : Nat) (t : List Nat) : Prop := (∀ j : Nat, j < cap → 0 ≤ A j ∧ A j < 128) ∧ (∀ j x : Nat, t[j]? = some x → A j = (x : Int)) ∧ t.length ≤ cap
/-- the text a with its bytes v -/
def STh (h : HM) (a v : Nat) (t : List Nat) : Prop := ∃ (A : Nat → Int) (x y : Value), h a = some (.inr (20, [.ref v, vz 0, x, y])) ∧ h v = some (.inl (2, (t.length, .inl (fun j => zI (A j))))) ∧ btA A t.length t ∧ t.length < 1000000
/-- the builder a with its bytes v, of which there are cap -/
def SBh (g : GB) (h : HM) (a v cap : Nat) (t : List Nat) : Prop := ∃ A : Nat → Int, h a = some (.inr (19, [.ref v, vz 0, vz 0, vz (t.length : Nat)])) ∧ gB g ≤ a ∧ h v = some (.inl (2, (cap, .inl (fun j => zI (A j))))) ∧ gB g ≤ v ∧ btA A cap t ∧ cap < 1000000
theorem STh.fr {h' : HM} {S : List Nat} {a v : Nat} {t : List Nat} (H : STh h a v t) (F : Fr g h h' S) (ha : gB g ≤ a → a ∉ S) (hv : gB g ≤ v → v ∉ S) : STh h' a v t := by
  obtain ⟨A, x, y, h1, h2, h3⟩ := H
  exact ⟨A, x, y, F.kp h1 ha, F.kp h2 hv, h3⟩
theorem STh.sub {I : HM} {a v : Nat} {t : List Nat} (H : STh I a v t) (F : Sub I h) : STh h a v t := by
  obtain ⟨A, x, y, h1, h2, h3⟩ := H
  exact ⟨A, x, y, F _ _ h1, F _ _ h2, h3⟩
theorem SBh.fr {h' : HM} {S : List Nat} {a v cap : Nat} {t : List Nat} (H : SBh g h a v cap t) (F : Fr g h h' S) (ha : a ∉ S) (hv : v ∉ S) : SBh g h' a v cap t := by
  obtain ⟨A, h1, h2, h3, h4, h5⟩ := H
  exact ⟨A, F.keep h1 ha, h2, F.keep h3 hv, h4, h5⟩
section
variable {Q : RS → HM → Prop} {pc : Nat} {ls : List (Option Value)} {st : List Value}
theorem zI_shr0 (a : Int) : zI a >>> (zI 0 &&& 31) = zI a := by
  rw [show (zI 0 &&& 31 : Int32) = 0 by decide]; simp
theorem zI_shl0 (a : Int) : zI a <<< (zI 0 &&& 31) = zI a := by
  rw [show (zI 0 &&& 31 : Int32) = 0 by decide]; simp
theorem ev_ishr0 {a : Int} (hd : decode M.2.1 pc = .ok (.ishr, 1)) (kk : Ev g M d c k Q (pc + 1) ls (vz a :: st) h) : Ev g M d c k Q pc ls (vz 0 :: vz a :: st) h := ev_ishr hd (by rw [zI_shr0]; exact kk)
theorem ev_ishl0 {a : Int} (hd : decode M.2.1 pc = .ok (.ishl, 1)) (kk : Ev g M d c k Q (pc + 1) ls (vz a :: st) h) : Ev g M d c k Q pc ls (vz 0 :: vz a :: st) h := ev_ishl hd (by rw [zI_shl0]; exact kk)
theorem i2b_f : ∀ n : Fin 128, (zI (n.val : Int)).toInt8.toInt32 = zI (n.val : Int) := by decide +kernel
theorem ev_i2bZ {a : Int} (hd : decode M.2.1 pc = .ok (.i2b, 1)) (ha : 0 ≤ a ∧ a < 128) (kk : Ev g M d c k Q (pc + 1) ls (vz a :: st) h) : Ev g M d c k Q pc ls (vz a :: st) h := ev_i2b hd (by
  have e := i2b_f ⟨a.toNat, by omega⟩
  rw [show (((⟨a.toNat, by omega⟩ : Fin 128).val : Nat) : Int) = a by show ((a.toNat : Nat) : Int) = a; omega] at e
  rw [e]; exact kk)
theorem and255 {n : Nat} (h : n < 256) : n &&& 255 = n := by rw [show 255 = 2 ^ 8 - 1 from rfl, Nat.and_two_pow_sub_one_eq_mod]; omega
theorem ev_and255 {a : Int} (hd : decode M.2.1 pc = .ok (.iand, 1)) (ha : 0 ≤ a ∧ a < 128) (kk : Ev g M d c k Q (pc + 1) ls (vz a :: st) h) : Ev g M d c k Q pc ls (vz 255 :: vz a :: st) h := by
  have e : a = ((a.toNat : Nat) : Int) := by omega
  rw [e] at kk ⊢
  exact ev_iandZ (a := a.toNat) (b := 255) hd (by omega) (by omega) (by rw [and255 (by omega)]; exact kk)
theorem ev_i2cI {a : Int} (hd : decode M.2.1 pc = .ok (.i2c, 1)) (ha : 0 ≤ a ∧ a < 128) (kk : Ev g M d c k Q (pc + 1) ls (vz a :: st) h) : Ev g M d c k Q pc ls (vz a :: st) h := by
  have e : a = ((a.toNat : Nat) : Int) := by omega
  rw [e] at kk ⊢
  exact ev_i2cZ hd (by omega) kk
theorem ev_getsF {idx : Nat} (hG : GKx g) (hd : decode M.2.1 pc = .ok (.getstatic idx, 3)) (hw : (Jvm.Cond.fieldLink M.1.cls idx "jdk/internal/util/Preconditions" "SIOOBE_FORMATTER" "Ljava/util/function/BiFunction;") ∈ lw_all) (kk : ∀ q : Option Nat, Ev g M d c k Q (pc + 3) ls (va_rf q :: st) h) : Ev g M d c k Q pc ls st h := by
  intro p l e R s m args below meth cd H locs cells slots mc ms lz F hc' hk hmc hms hL hR hz hl
  obtain ⟨q, hq⟩ := (hG s F.gk).2.2.2.2.2.2.2.2.2.2.1 0 (by decide)
  exact va_gets F.1 F.2.1 (F.z hq) (F.vaS hR hz hl) F.own (F.words _ hw) (fun _ q => q) hd (kk q p l e R s m args below meth cd H locs cells slots mc ms lz F hc' hk hmc hms hL hR hz hl)
end
theorem hni_J5 {M0 : MI} (h : M0.1.cls = "java/lang/AbstractStringBuilder") : ∀ (s : State) (args : Array Value), (∀ w ∈ lw_all, w.before args s = true) → ∀ mk : MethodId, s.methodNamed? M0.1 = some mk → ∃ kP, s.vm.classes[mk.cls]? = some kP ∧ kP.isInterface = false := by
  intro s args hts mk hn
  obtain ⟨cn, ck, r1, hcn, hck, hni, -, -⟩ := Cond.sameMethod_found (hts _ q3286)
  have e := findClass_of_methodNamed hn
  rw [h] at e
  cases hcn.symm.trans e
  exact ⟨ck, hck, hni⟩
theorem cv_J5_100_J6 : EntV g RJ5 (.invokevirtual 100) 3 RJ6 mJ5_ensureCapacityInternal.1 1 := entV_P (M := mJ5_ensureCapacityInternal) q443 q445 q444 (hni_J5 rfl) q446 ⟨by decide +kernel, by decide +kernel⟩ (by decide +kernel)
theorem cv_J5_104_J6 : EntV g RJ5 (.invokevirtual 104) 3 RJ6 mJ5_newCapacity.1 1 := entV_P (M := mJ5_newCapacity) q447 q449 q448 (hni_J5 rfl) q450 ⟨by decide +kernel, by decide +kernel⟩ (by decide +kernel)
theorem cv_J5_208_J6 : EntV g RJ5 (.invokevirtual 208) 3 RJ6 mJ5_putStringAt.1 2 := entV_P (M := mJ5_putStringAt) q518 q520 q519 (hni_J5 rfl) q521 ⟨by decide +kernel, by decide +kernel⟩ (by decide +kernel)
theorem cv_J5_397_J6 : EntV g RJ5 (.invokevirtual 397) 3 RJ6 mJ5_inflateIfNeededFor.1 1 := entV_P (M := mJ5_inflateIfNeededFor) q522 q524 q523 (hni_J5 rfl) q525 ⟨by decide +kernel, by decide +kernel⟩ (by decide +kernel)
section
variable {Q : RS → HM → Prop} {pc : Nat} {ls : List (Option Value)} {st : List Value}
theorem ev_cloneB {idx a n c' k' : Nat} {A : Nat → Int} (hG : GKx g) (hd : decode M.2.1 pc = .ok (.invokevirtual idx, 3)) (hw : (Jvm.Cond.methodLink M.1.cls idx ⟨"[B", "clone", "()Ljava/lang/Object;"⟩) ∈ lw_all) (ha : h a = some (.inl (2, (n, .inl (fun j => zI (A j)))))) (hB : gB g ≤ a) (hb : ∀ j : Nat, j < n → -128 ≤ A j ∧ A j < 128) (h1 : c' + 1 ≤ c) (h2 : k' + n ≤ k) (hdd : 1 ≤ d) (hW8 : (st.map fun v => v.category).sum ≤ 8)
    (kk : ∀ (q : Nat) (h' : HM), h q = none → gB g ≤ q → h' q = some (.inl (2, (n, .inl (fun j => zI (A j))))) → (∀ x : Nat, x ≠ q → h' x = h x) → Ev g M d c' k' Q (pc + 3) ls (.ref q :: st) h') : Ev g M d c k Q pc ls (.ref a :: st) h := by
  intro p l e R s m args below meth cd H locs cells slots mc ms lz F hc' hk hmc hms hL hR hz hl
  intro T hT X
  have hcA : H[a]? = some (vp_cell (g.2.1 2) (n, .inl (fun j => zI (A j)))) := hR.at hB ha
  have hcellT : T.heap[a]? = some (vp_cell (g.2.1 2) (n, .inl (fun j => zI (A j)))) := by rw [hT]; exact hcA
  obtain ⟨kn1, kn2⟩ := F.kn.2.1 2 .byte rfl
  have hnm : s.vm.findClass "[B" = some (g.2.1 2) := by
    have e1 : "[" ++ FieldType.byte.toString = "[B" := by decide +kernel
    rw [← e1]; exact kn2
  obtain ⟨c0, t0', f1, f2, f3⟩ := Cond.castable_spec (va_Nw.use (A := args) rfl (F.nw _ q470 rfl))
  cases hnm.symm.trans f1
  obtain ⟨-, kA, hkA, comp, hkind⟩ := State.isArrayOf_alike X.warmed.alike (kn1 0 (fun _ => .null))
  obtain ⟨-, kS, hkS, compS, hkindS⟩ := kn1 0 (fun _ => .null)
  have hsz : (vp_cell (g.2.1 2) (n, .inl (fun j => zI (A j)))).slots.size = n := arrV_size _ _ _
  have hfr := F.frames
  have hrm := F.room
  obtain ⟨vm', X', stp⟩ := X.cloneArray F.1 F.own (F.words _ hw) (F.words _ q466) (F.words _ q467) (F.words _ q468) (F.words _ q469) (a := a) (cell := vp_cell (g.2.1 2) (n, .inl (fun j => zI (A j)))) hcellT (fun k h => by cases h) (fun h => by cases h) hnm f2 f3
    (fun i v hv => by
      have hk' : T.vm.classes[g.2.1 2]? = some kA := hkA
      have hf : fits .byte v = true := va_fit (cA := g.2.1 2) (n := n) (F := fun j => vz (A j)) (fun j hj => fits_b (hb j hj)) i v hv
      rw [show (vp_cell (g.2.1 2) (n, .inl (fun j => zI (A j)))).cls = g.2.1 2 from rfl]
      simpa [State.fitsSlot, State.slotType?, hk', hkind] using hf)
    (g := F0 m pc lz (.ref a :: st)) rfl (by rw [F.2.2.1]; exact hL.1) rfl (by rw [F.2.1]; exact hd) (by omega) (by show 2 * 0 + _ + 14 ≤ _; omega) (by omega) (by rw [hsz]; omega) (hloader := Vm.clonesLoader_of_array hkS hkindS)
  rw [hsz] at X'
  obtain ⟨t, b1, b2⟩ := kk H.size _ hR.fresh hR.1 (hs_same h H.size _) (fun x hx => hs_ne hx) p l e R s m args below meth cd (H.push (vp_cell (g.2.1 2) (n, .inl (fun j => zI (A j))))) locs (cells + 1) (slots + n) mc ms lz F (by omega) (by omega) hmc hms hL (hR.push (by rw [Array.size_push]) (fun q hq => by rw [Array.getElem?_push, if_neg (Nat.ne_of_lt hq)]) (by show (H.push _)[H.size]? = some (vp_cell _ _); rw [Array.getElem?_push_size])) (by rw [Array.size_push]; omega) hl ((T.setVm vm').pushCell (vp_cell (g.2.1 2) (n, .inl (fun j => zI (A j))))) (by rw [← hT]; rfl) X'
  refine ⟨t, stp t ?_, b2⟩
  rw [hT]
  exact b1
end
theorem nar_c {x : Int} (hx : 0 ≤ x ∧ x < 256) : narrow .char (vz x) = vz x := by
  have e := narrow_c (n := x.toNat) (by omega)
  rw [show ((x.toNat : Nat) : Int) = x by omega] at e
  exact e
set_option maxRecDepth 100000 in
set_option maxHeartbeats 4000000 in
theorem k_pCIr {a b : Int} {q : Nat} (h0 : 0 ≤ a ∧ a < b) (hb : inR b) : Kc g mJ22_checkIndex 0 (0) (0) [vz a, vz b, .ref q] h (sR (some (vz a)) h) := by
  refine Kc.of (ls := [some (vz a), some (vz b), some (.ref q)]) (by decide +kernel) (Nat.le_of_ble_eq_true rfl) rfl ?_
  refine ev_iload_n dJ22_checkIndex_0 rfl ?_
  refine ev_if_ltZ (tgt := 9) dJ22_checkIndex_1 (by decide) (by omega) (fun c1 => by omega) (fun c1 => ?_)
  refine ev_iload_n dJ22_checkIndex_4 rfl ?_
  refine ev_iload_n dJ22_checkIndex_5 rfl ?_
  refine ev_icmp_ltZ (tgt := 16) dJ22_checkIndex_6 (by decide) (by omega) (by omega) (fun c6 => ?_) (fun c6 => by omega)
  refine ev_iload_n dJ22_checkIndex_16 rfl ?_
  refine ev_ireturn dJ22_checkIndex_17 rfl ?_
  exact ⟨rfl, rfl⟩
theorem k_pCIq {a b : Int} {q : Option Nat} (h0 : 0 ≤ a ∧ a < b) (hb : inR b) : Kc g mJ22_checkIndex 0 0 0 [vz a, vz b, va_rf q] h (sR (some (vz a)) h) := by
  cases q with
  | none => exact k_pCI (v := .null) h0 hb
  | some q => exact k_pCIr h0 hb
set_option maxRecDepth 100000 in
set_option maxHeartbeats 4000000 in
theorem k_pFTn {a b n : Int} (h0 : 0 ≤ a ∧ a ≤ b ∧ b ≤ n) (hb : inR n) : Kc g mJ22_checkFromToIndex 0 (0) (0) [vz a, vz b, vz n, .null] h (sR (some (vz a)) h) := by
  refine Kc.of (ls := [some (vz a), some (vz b), some (vz n), some (.null)]) (by decide +kernel) (Nat.le_of_ble_eq_true rfl) rfl ?_
  refine ev_iload_n dJ22_checkFromToIndex_0 rfl ?_
  refine ev_if_ltZ (tgt := 14) dJ22_checkFromToIndex_1 (by decide) (by omega) (fun c1 => by omega) (fun c1 => ?_)
  refine ev_iload_n dJ22_checkFromToIndex_4 rfl ?_
  refine ev_iload_n dJ22_checkFromToIndex_5 rfl ?_
  refine ev_icmp_gtZ (tgt := 14) dJ22_checkFromToIndex_6 (by decide) (by omega) (by omega) (fun c6 => by omega) (fun c6 => ?_)
  refine ev_iload_n dJ22_checkFromToIndex_9 rfl ?_
  refine ev_iload_n dJ22_checkFromToIndex_10 rfl ?_
  refine ev_icmp_leZ (tgt := 22) dJ22_checkFromToIndex_11 (by decide) (by omega) (by omega) (fun c11 => ?_) (fun c11 => by omega)
  refine ev_iload_n dJ22_checkFromToIndex_22 rfl ?_
  refine ev_ireturn dJ22_checkFromToIndex_23 rfl ?_
  exact ⟨rfl, rfl⟩
set_option maxRecDepth 100000 in
set_option maxHeartbeats 4000000 in
theorem k_pFTr {a b n : Int} {q : Nat} (h0 : 0 ≤ a ∧ a ≤ b ∧ b ≤ n) (hb : inR n) : Kc g mJ22_checkFromToIndex 0 (0) (0) [vz a, vz b, vz n, .ref q] h (sR (some (vz a)) h) := by
  refine Kc.of (ls := [some (vz a), some (vz b), some (vz n), some (.ref q)]) (by decide +kernel) (Nat.le_of_ble_eq_true rfl) rfl ?_
  refine ev_iload_n dJ22_checkFromToIndex_0 rfl ?_
  refine ev_if_ltZ (tgt := 14) dJ22_checkFromToIndex_1 (by decide) (by omega) (fun c1 => by omega) (fun c1 => ?_)
  refine ev_iload_n dJ22_checkFromToIndex_4 rfl ?_
  refine ev_iload_n dJ22_checkFromToIndex_5 rfl ?_
  refine ev_icmp_gtZ (tgt := 14) dJ22_checkFromToIndex_6 (by decide) (by omega) (by omega) (fun c6 => by omega) (fun c6 => ?_)
  refine ev_iload_n dJ22_checkFromToIndex_9 rfl ?_
  refine ev_iload_n dJ22_checkFromToIndex_10 rfl ?_
  refine ev_icmp_leZ (tgt := 22) dJ22_checkFromToIndex_11 (by decide) (by omega) (by omega) (fun c11 => ?_) (fun c11 => by omega)
  refine ev_iload_n dJ22_checkFromToIndex_22 rfl ?_
  refine ev_ireturn dJ22_checkFromToIndex_23 rfl ?_
  exact ⟨rfl, rfl⟩
theorem k_pFTq {a b n : Int} {q : Option Nat} (h0 : 0 ≤ a ∧ a ≤ b ∧ b ≤ n) (hb : inR n) : Kc g mJ22_checkFromToIndex 0 0 0 [vz a, vz b, vz n, va_rf q] h (sR (some (vz a)) h) := by
  cases q with
  | none => exact k_pFTn h0 hb
  | some q => exact k_pFTr h0 hb
set_option maxRecDepth 100000 in
set_option maxHeartbeats 4000000 in
theorem k_sCI {a b : Int} (hG : GKx g) (h0 : 0 ≤ a ∧ a < b) (hb : inR b) : Kc g mJ7_checkIndex 1 (0) (0) [vz a, vz b] h (sR none h) := by
  refine Kc.of (ls := [some (vz a), some (vz b)]) (by decide +kernel) (Nat.le_of_ble_eq_true rfl) rfl ?_
  refine ev_iload_n dJ7_checkIndex_0 rfl ?_
  refine ev_iload_n dJ7_checkIndex_1 rfl ?_
  refine ev_getsF hG dJ7_checkIndex_2 q495 (fun qf1 => ?_)
  refine ev_callSE dJ7_checkIndex_5 cs_J7_1059 ce_J22_checkIndex rfl rfl (k_pCIq h0 hb) (by omega) (Nat.le_of_ble_eq_true rfl) ?_
  refine ev_pop dJ7_checkIndex_8 rfl ?_
  refine ev_return dJ7_checkIndex_9 rfl ?_
  exact ⟨rfl, rfl⟩
set_option maxRecDepth 100000 in
set_option maxHeartbeats 4000000 in
theorem k_sBE {a b n : Int} (hG : GKx g) (h0 : 0 ≤ a ∧ a ≤ b ∧ b ≤ n) (hb : inR n) : Kc g mJ7_checkBoundsBeginEnd 1 (0) (0) [vz a, vz b, vz n] h (sR none h) := by
  refine Kc.of (ls := [some (vz a), some (vz b), some (vz n)]) (by decide +kernel) (Nat.le_of_ble_eq_true rfl) rfl ?_
  refine ev_iload_n dJ7_checkBoundsBeginEnd_0 rfl ?_
  refine ev_iload_n dJ7_checkBoundsBeginEnd_1 rfl ?_
  refine ev_iload_n dJ7_checkBoundsBeginEnd_2 rfl ?_
  refine ev_getsF hG dJ7_checkBoundsBeginEnd_3 q495 (fun qf1 => ?_)
  refine ev_callSE dJ7_checkBoundsBeginEnd_6 cs_J7_1062 ce_J22_checkFromToIndex rfl rfl (k_pFTq h0 hb) (by omega) (Nat.le_of_ble_eq_true rfl) ?_
  refine ev_pop dJ7_checkBoundsBeginEnd_9 rfl ?_
  refine ev_return dJ7_checkBoundsBeginEnd_10 rfl ?_
  exact ⟨rfl, rfl⟩
set_option maxRecDepth 100000 in
set_option maxHeartbeats 4000000 in
theorem st_isLatin1 {a v : Nat} {t : List Nat} (H : STh h a v t) (hG : GKx g) : Kc g mJ7_isLatin1 0 (0) (0) [.ref a] h (sR (some (vz 1)) h) := by
  refine Kc.of (ls := [some (.ref a)]) (by decide +kernel) (Nat.le_of_ble_eq_true rfl) rfl ?_
  obtain ⟨A, x, y, ha, hv, hb, hn⟩ := H
  refine ev_gets (i := 4) hG dJ7_isLatin1_0 rfl q517 ?_
  refine ev_nm (fun y ey => ?_)
  rw [show y = vz 1 from ey]
  refine ev_if_eqZ (tgt := 17) dJ7_isLatin1_3 (by decide) (by omega) (fun c3 => by omega) (fun c3 => ?_)
  refine ev_aload_n dJ7_isLatin1_6 rfl ?_
  refine ev_getf dJ7_isLatin1_7 gf_J7_15_J7 ha rfl ?_
  refine ev_if_neZ (tgt := 17) dJ7_isLatin1_10 (by decide) (by omega) (fun c10 => absurd rfl c10) (fun c10 => ?_)
  refine ev_iconstZ dJ7_isLatin1_13 ?_
  refine ev_goto (tgt := 18) dJ7_isLatin1_14 (by decide) ?_
  refine ev_zreturn dJ7_isLatin1_18 rfl rfl ?_
  exact ⟨rfl, rfl⟩
set_option maxRecDepth 100000 in
set_option maxHeartbeats 4000000 in
theorem st_coder {a v : Nat} {t : List Nat} (H : STh h a v t) (hG : GKx g) : Kc g mJ7_coder 0 (0) (0) [.ref a] h (sR (some (vz 0)) h) := by
  refine Kc.of (ls := [some (.ref a)]) (by decide +kernel) (Nat.le_of_ble_eq_true rfl) rfl ?_
  obtain ⟨A, x, y, ha, hv, hb, hn⟩ := H
  refine ev_gets (i := 4) hG dJ7_coder_0 rfl q517 ?_
  refine ev_nm (fun y ey => ?_)
  rw [show y = vz 1 from ey]
  refine ev_if_eqZ (tgt := 13) dJ7_coder_3 (by decide) (by omega) (fun c3 => by omega) (fun c3 => ?_)
  refine ev_aload_n dJ7_coder_6 rfl ?_
  refine ev_getf dJ7_coder_7 gf_J7_15_J7 ha rfl ?_
  refine ev_goto (tgt := 14) dJ7_coder_10 (by decide) ?_
  refine ev_zreturn dJ7_coder_14 rfl rfl ?_
  exact ⟨rfl, rfl⟩
set_option maxRecDepth 100000 in
set_option maxHeartbeats 4000000 in
theorem st_length {a v : Nat} {t : List Nat} (H : STh h a v t) (hG : GKx g) : Kc g mJ7_length 1 (0) (0) [.ref a] h (sR (some (vz (t.length : Nat))) h) := by
  refine Kc.of (ls := [some (.ref a)]) (by decide +kernel) (Nat.le_of_ble_eq_true rfl) rfl ?_
  obtain ⟨A, x, y, ha, hv, hb, hn⟩ := id H
  refine ev_aload_n dJ7_length_0 rfl ?_
  refine ev_getf dJ7_length_1 gf_J7_9_J7 ha rfl ?_
  refine ev_alenZ dJ7_length_4 hv rfl ?_
  refine ev_aload_n dJ7_length_5 rfl ?_
  refine ev_callVE dJ7_length_6 cv_J7_335_J7 ce_J7_coder ha rfl rfl rfl (st_coder H hG) (by omega) (Nat.le_of_ble_eq_true rfl) ?_
  refine ev_ishr0 dJ7_length_9 ?_
  refine ev_ireturn dJ7_length_10 rfl ?_
  exact ⟨rfl, rfl⟩
set_option maxRecDepth 100000 in
set_option maxHeartbeats 4000000 in
theorem st_isEmpty {a v : Nat} {t : List Nat} (H : STh h a v t) : Kc g mJ7_isEmpty 0 (0) (0) [.ref a] h (sR (some (vz (if t.length = 0 then 1 else 0))) h) := by
  refine Kc.of (ls := [some (.ref a)]) (by decide +kernel) (Nat.le_of_ble_eq_true rfl) rfl ?_
  obtain ⟨A, x, y, ha, hv, hb, hn⟩ := id H
  refine ev_aload_n dJ7_isEmpty_0 rfl ?_
  refine ev_getf dJ7_isEmpty_1 gf_J7_9_J7 ha rfl ?_
  refine ev_alenZ dJ7_isEmpty_4 hv rfl ?_
  refine ev_if_neZ (tgt := 12) dJ7_isEmpty_5 (by decide) (by omega) (fun c5 => ?_) (fun c5 => ?_)
  · refine ev_iconstZ dJ7_isEmpty_12 ?_
    refine ev_zreturn dJ7_isEmpty_13 rfl rfl ?_
    exact ⟨by first | rw [if_pos (by omega)] | rw [if_neg (by omega)], rfl⟩
  · refine ev_iconstZ dJ7_isEmpty_8 ?_
    refine ev_goto (tgt := 13) dJ7_isEmpty_9 (by decide) ?_
    refine ev_zreturn dJ7_isEmpty_13 rfl rfl ?_
    exact ⟨by first | rw [if_pos (by omega)] | rw [if_neg (by omega)], rfl⟩
set_option maxRecDepth 100000 in
set_option maxHeartbeats 4000000 in
theorem k_l1charAt {v n : Nat} {i x : Int} {A : Nat → Int} (hG : GKx g) (hv : h v = some (.inl (2, (n, .inl (fun j => zI (A j)))))) (hi : 0 ≤ i ∧ i < n ∧ n < 1000000) (hx : A i.toNat = x ∧ 0 ≤ x ∧ x < 128) : Kc g mJ23_charAt 2 (0) (0) [.ref v, vz i] h (sR (some (vz x)) h) := by
  refine Kc.of (ls := [some (.ref v), some (vz i)]) (by decide +kernel) (Nat.le_of_ble_eq_true rfl) rfl ?_
  refine ev_iload_n dJ23_charAt_0 rfl ?_
  refine ev_aload_n dJ23_charAt_1 rfl ?_
  refine ev_alenZ dJ23_charAt_2 hv rfl ?_
  refine ev_callSN dJ23_charAt_3 cs_J23_9 ce_J7_checkIndex rfl rfl (k_sCI hG ⟨hi.1, hi.2.1⟩ (by omega)) (by omega) (Nat.le_of_ble_eq_true rfl) ?_
  refine ev_aload_n dJ23_charAt_6 rfl ?_
  refine ev_iload_n dJ23_charAt_7 rfl ?_
  refine ev_baldY dJ23_charAt_8 hv (by omega) ?_
  rw [hx.1]
  refine ev_sipushZ dJ23_charAt_9 rfl ?_
  refine ev_and255 dJ23_charAt_12 (by omega) ?_
  refine ev_i2cI dJ23_charAt_13 (by omega) ?_
  refine ev_zreturn dJ23_charAt_14 rfl (nar_c (by omega)) ?_
  exact ⟨rfl, rfl⟩
set_option maxRecDepth 100000 in
set_option maxHeartbeats 4000000 in
theorem st_charAt {a v : Nat} {t : List Nat} (H : STh h a v t) {i : Int} {u : Nat} (hG : GKx g) (hi : 0 ≤ i) (hu : t[i.toNat]? = some u) : Kc g mJ7_charAt 3 (0) (0) [.ref a, vz i] h (sR (some (vz (u : Nat))) h) := by
  refine Kc.of (ls := [some (.ref a), some (vz i)]) (by decide +kernel) (Nat.le_of_ble_eq_true rfl) rfl ?_
  obtain ⟨A, x, y, ha, hv, hb, hn⟩ := id H
  have hl := (List.getElem?_eq_some_iff.mp hu).1
  have hi2 : 0 ≤ i ∧ i < (t.length : Nat) ∧ t.length < 1000000 := by omega
  have hx1 := hb.2.1 _ _ hu
  have hx2 := hb.1 i.toNat (by omega)
  have hx : A i.toNat = (u : Int) ∧ 0 ≤ (u : Int) ∧ (u : Int) < 128 := by omega
  refine ev_aload_n dJ7_charAt_0 rfl ?_
  refine ev_callVE dJ7_charAt_1 cv_J7_492_J7 ce_J7_isLatin1 ha rfl rfl rfl (st_isLatin1 H hG) (by omega) (Nat.le_of_ble_eq_true rfl) ?_
  refine ev_if_eqZ (tgt := 16) dJ7_charAt_4 (by decide) (by omega) (fun c4 => by omega) (fun c4 => ?_)
  refine ev_aload_n dJ7_charAt_7 rfl ?_
  refine ev_getf dJ7_charAt_8 gf_J7_9_J7 ha rfl ?_
  refine ev_iload_n dJ7_charAt_11 rfl ?_
  refine ev_callSE dJ7_charAt_12 cs_J7_495 ce_J23_charAt rfl rfl (k_l1charAt hG hv hi2 hx) (by omega) (Nat.le_of_ble_eq_true rfl) ?_
  refine ev_zreturn dJ7_charAt_15 rfl (nar_c (by omega)) ?_
  exact ⟨rfl, rfl⟩
set_option maxRecDepth 100000 in
set_option maxHeartbeats 4000000 in
theorem k_canEnc {x : Int} (hx : 0 ≤ x ∧ x < 128) : Kc g mJ23_canEncode 0 (0) (0) [vz x] h (sR (some (vz 1)) h) := by
  refine Kc.of (ls := [some (vz x)]) (by decide +kernel) (Nat.le_of_ble_eq_true rfl) rfl ?_
  refine ev_iload_n dJ23_canEncode_0 rfl ?_
  refine ev_sipushZ dJ23_canEncode_1 rfl ?_
  refine ev_icmp_gtZ (tgt := 11) dJ23_canEncode_4 (by decide) (by omega) (by omega) (fun c4 => by omega) (fun c4 => ?_)
  refine ev_iconstZ dJ23_canEncode_7 ?_
  refine ev_goto (tgt := 12) dJ23_canEncode_8 (by decide) ?_
  refine ev_zreturn dJ23_canEncode_12 rfl rfl ?_
  exact ⟨rfl, rfl⟩
set_option maxRecDepth 100000 in
set_option maxHeartbeats 4000000 in
theorem sb_len5 {a v cap : Nat} {t : List Nat} (H : SBh g h a v cap t) : Kc g mJ5_length 0 (0) (0) [.ref a] h (sR (some (vz (t.length : Nat))) h) := by
  refine Kc.of (ls := [some (.ref a)]) (by decide +kernel) (Nat.le_of_ble_eq_true rfl) rfl ?_
  obtain ⟨A, ha, hB, hv, hBv, hb, hcp⟩ := id H
  refine ev_aload_n dJ5_length_0 rfl ?_
  refine ev_getf dJ5_length_1 gf_J5_79_J6 ha rfl ?_
  refine ev_ireturn dJ5_length_4 rfl ?_
  exact ⟨rfl, rfl⟩
set_option maxRecDepth 100000 in
set_option maxHeartbeats 4000000 in
theorem sb_length {a v cap : Nat} {t : List Nat} (H : SBh g h a v cap t) : Kc g mJ6_length 1 (0) (0) [.ref a] h (sR (some (vz (t.length : Nat))) h) := by
  refine Kc.of (ls := [some (.ref a)]) (by decide +kernel) (Nat.le_of_ble_eq_true rfl) rfl ?_
  obtain ⟨A, ha, hB, hv, hBv, hb, hcp⟩ := id H
  refine ev_aload_n dJ6_length_0 rfl ?_
  refine ev_callVE dJ6_length_1 cu_J6_343 ce_J5_length ha rfl rfl rfl (sb_len5 H) (by omega) (Nat.le_of_ble_eq_true rfl) ?_
  refine ev_ireturn dJ6_length_4 rfl ?_
  exact ⟨rfl, rfl⟩
set_option maxRecDepth 100000 in
set_option maxHeartbeats 4000000 in
theorem sb_isLatin1 {a v cap : Nat} {t : List Nat} (H : SBh g h a v cap t) (hG : GKx g) : Kc g mJ5_isLatin1 0 (0) (0) [.ref a] h (sR (some (vz 1)) h) := by
  refine Kc.of (ls := [some (.ref a)]) (by decide +kernel) (Nat.le_of_ble_eq_true rfl) rfl ?_
  obtain ⟨A, ha, hB, hv, hBv, hb, hcp⟩ := id H
  refine ev_gets (i := 4) hG dJ5_isLatin1_0 rfl q292 ?_
  refine ev_nm (fun y ey => ?_)
  rw [show y = vz 1 from ey]
  refine ev_if_eqZ (tgt := 17) dJ5_isLatin1_3 (by decide) (by omega) (fun c3 => by omega) (fun c3 => ?_)
  refine ev_aload_n dJ5_isLatin1_6 rfl ?_
  refine ev_getf dJ5_isLatin1_7 gf_J5_22_J6 ha rfl ?_
  refine ev_if_neZ (tgt := 17) dJ5_isLatin1_10 (by decide) (by omega) (fun c10 => absurd rfl c10) (fun c10 => ?_)
  refine ev_iconstZ dJ5_isLatin1_13 ?_
  refine ev_goto (tgt := 18) dJ5_isLatin1_14 (by decide) ?_
  refine ev_zreturn dJ5_isLatin1_18 rfl rfl ?_
  exact ⟨rfl, rfl⟩
set_option maxRecDepth 100000 in
set_option maxHeartbeats 4000000 in
theorem sb_getValue {a v cap : Nat} {t : List Nat} (H : SBh g h a v cap t) : Kc g mJ5_getValue 0 (0) (0) [.ref a] h (sR (some (.ref v)) h) := by
  refine Kc.of (ls := [some (.ref a)]) (by decide +kernel) (Nat.le_of_ble_eq_true rfl) rfl ?_
  obtain ⟨A, ha, hB, hv, hBv, hb, hcp⟩ := id H
  refine ev_aload_n dJ5_getValue_0 rfl ?_
  refine ev_getf dJ5_getValue_1 gf_J5_15_J6 ha rfl ?_
  refine ev_areturn dJ5_getValue_4 rfl (Or.inr ⟨_, rfl⟩) (Or.inr ⟨_, rfl⟩) ?_
  exact ⟨rfl, rfl⟩
set_option maxRecDepth 100000 in
set_option maxHeartbeats 4000000 in
theorem sb_charAt5 {a v cap : Nat} {t : List Nat} (H : SBh g h a v cap t) {i : Int} {u : Nat} (hG : GKx g) (hi : 0 ≤ i) (hu : t[i.toNat]? = some u) : Kc g mJ5_charAt 2 (0) (0) [.ref a, vz i] h (sR (some (vz (u : Nat))) h) := by
  refine Kc.of (ls := [some (.ref a), some (vz i), none, none, none]) (by decide +kernel) (Nat.le_of_ble_eq_true rfl) rfl ?_
  obtain ⟨A, ha, hB, hv, hBv, hb, hcp⟩ := id H
  have hl := (List.getElem?_eq_some_iff.mp hu).1
  have hx1 := hb.2.1 _ _ hu
  have hx2 := hb.1 i.toNat (by have := hb.2.2; omega)
  have hcl := hb.2.2
  have hx : A i.toNat = (u : Int) := hx1
  refine ev_aload_n dJ5_charAt_0 rfl ?_
  refine ev_getf dJ5_charAt_1 gf_J5_22_J6 ha rfl ?_
  refine ev_istore_n dJ5_charAt_4 (by decide) rfl ?_
  dsimp only [List.set]
  refine ev_aload_n dJ5_charAt_5 rfl ?_
  refine ev_getf dJ5_charAt_6 gf_J5_15_J6 ha rfl ?_
  refine ev_astore_n dJ5_charAt_9 (by decide) rfl ?_
  dsimp only [List.set]
  refine ev_aload_n dJ5_charAt_10 rfl ?_
  refine ev_getf dJ5_charAt_11 gf_J5_79_J6 ha rfl ?_
  refine ev_aload_n dJ5_charAt_14 rfl ?_
  refine ev_alenZ dJ5_charAt_15 hv rfl ?_
  refine ev_iload_n dJ5_charAt_16 rfl ?_
  refine ev_ishr0 dJ5_charAt_17 ?_
  refine ev_mminN (a := t.length) (b := cap) dJ5_charAt_18 q1671 (by omega) (by omega) (by omega) (Nat.le_of_ble_eq_true rfl) ?_
  refine ev_istore dJ5_charAt_21 (by decide) rfl ?_
  dsimp only [List.set]
  refine ev_iload_n dJ5_charAt_23 rfl ?_
  refine ev_iload dJ5_charAt_24 rfl ?_
  refine ev_callSN dJ5_charAt_26 cs_J5_144 ce_J7_checkIndex rfl rfl (k_sCI hG (by omega) (by omega)) (by omega) (Nat.le_of_ble_eq_true rfl) ?_
  refine ev_iload_n dJ5_charAt_29 rfl ?_
  refine ev_if_neZ (tgt := 42) dJ5_charAt_30 (by decide) (by omega) (fun c30 => absurd rfl c30) (fun c30 => ?_)
  refine ev_aload_n dJ5_charAt_33 rfl ?_
  refine ev_iload_n dJ5_charAt_34 rfl ?_
  refine ev_baldY dJ5_charAt_35 hv (by omega) ?_
  rw [hx]
  refine ev_sipushZ dJ5_charAt_36 rfl ?_
  refine ev_and255 dJ5_charAt_39 (by omega) ?_
  refine ev_i2cI dJ5_charAt_40 (by omega) ?_
  refine ev_zreturn dJ5_charAt_41 rfl (nar_c (by omega)) ?_
  exact ⟨rfl, rfl⟩
set_option maxRecDepth 100000 in
set_option maxHeartbeats 4000000 in
theorem sb_charAt {a v cap : Nat} {t : List Nat} (H : SBh g h a v cap t) {i : Int} {u : Nat} (hG : GKx g) (hi : 0 ≤ i) (hu : t[i.toNat]? = some u) : Kc g mJ6_charAt 3 (0) (0) [.ref a, vz i] h (sR (some (vz (u : Nat))) h) := by
  refine Kc.of (ls := [some (.ref a), some (vz i)]) (by decide +kernel) (Nat.le_of_ble_eq_true rfl) rfl ?_
  obtain ⟨A, ha, hB, hv, hBv, hb, hcp⟩ := id H
  have hl := (List.getElem?_eq_some_iff.mp hu).1
  have hx1 := hb.2.1 _ _ hu
  have hx2 := hb.1 i.toNat (by have := hb.2.2; omega)
  have hcl := hb.2.2
  have hx : A i.toNat = (u : Int) := hx1
  refine ev_aload_n dJ6_charAt_0 rfl ?_
  refine ev_iload_n dJ6_charAt_1 rfl ?_
  refine ev_callVE dJ6_charAt_2 cu_J6_329 ce_J5_charAt ha rfl rfl rfl (sb_charAt5 H hG hi hu) (by omega) (Nat.le_of_ble_eq_true rfl) ?_
  refine ev_zreturn dJ6_charAt_5 rfl (nar_c (by omega)) ?_
  exact ⟨rfl, rfl⟩
set_option maxRecDepth 100000 in
set_option maxHeartbeats 4000000 in
theorem sb_init5 {a : Nat} {x : Value} (hG : GKx g) (ha : h a = some (.inr (19, [x, vz 0, vz 0, vz 0]))) (hB : gB g ≤ a) : Kc g mJ5_init 1 (1) (16) [.ref a, vz 16] h (rR (fun r h' => r = none ∧ ∃ v : Nat, h v = none ∧ SBh g h' a v 16 [] ∧ Fr g h h' [a])) := by
  refine Kc.of (ls := [some (.ref a), some (vz 16)]) (by decide +kernel) (Nat.le_of_ble_eq_true rfl) rfl ?_
  refine ev_aload_n dJ5_init_0 rfl ?_
  refine ev_objInit dJ5_init_1 q291 q183 q184 (by omega) rfl ?_
  refine ev_gets (i := 4) hG dJ5_init_4 rfl q292 ?_
  refine ev_nm (fun y ey => ?_)
  rw [show y = vz 1 from ey]
  refine ev_if_eqZ (tgt := 25) dJ5_init_7 (by decide) (by omega) (fun c7 => by omega) (fun c7 => ?_)
  refine ev_aload_n dJ5_init_10 rfl ?_
  refine ev_iload_n dJ5_init_11 rfl ?_
  refine ev_newA_byte (N := 16) (c' := 0) (k' := 0) dJ5_init_12 (by omega) (by omega) (by omega) (by omega) (by omega) (fun q1 hp_2 e3 B4 Hq1_5 f6 => ?_)
  have ha_7 := (f6 _ (ne_no ha e3)).trans ha
  have z8 := ((Fr.refl (g := g) _ [a])).fresh e3
  have F9 := ((Fr.refl (g := g) _ [a])).alloc (Or.inr ⟨_, Hq1_5, Nat.le_of_ble_eq_true rfl⟩) f6 e3
  refine ev_putC [.ref q1, vz 0, vz 0, vz 0] dJ5_init_14 gf_J5_15_J6 ha_7 hB (Or.inl rfl) rfl rfl (Nat.le_of_ble_eq_true rfl) rfl (fun hp_10 ha_11 f12 => ?_)
  have Hq1_13 := (f12 _ ((ne_no ha e3)).symm).trans Hq1_5
  have F14 := (F9).write (Or.inl ⟨_, ha_11⟩) f12 hB (by simp)
  refine ev_aload_n dJ5_init_17 rfl ?_
  refine ev_iconstZ dJ5_init_18 ?_
  refine ev_putC [.ref q1, vz 0, vz 0, vz 0] dJ5_init_19 gf_J5_22_J6 ha_11 hB (Or.inl rfl) rfl rfl (Nat.le_of_ble_eq_true rfl) rfl (fun hp_15 ha_16 f17 => ?_)
  have Hq1_18 := (f17 _ ((ne_no ha e3)).symm).trans Hq1_13
  have F19 := (F14).write (Or.inl ⟨_, ha_16⟩) f17 hB (by simp)
  refine ev_goto (tgt := 38) dJ5_init_22 (by decide) ?_
  refine ev_return dJ5_init_38 rfl ?_
  exact ⟨_, rfl, rfl, q1, z8, ⟨_, ha_16, hB, Hq1_18, B4, ⟨fun j _ => (show (0 : Int) ≤ 0 ∧ (0 : Int) < 128 by decide), fun j x hx => by simp at hx, by decide⟩, by decide⟩, F19⟩
set_option maxRecDepth 100000 in
set_option maxHeartbeats 4000000 in
theorem sb_init {a : Nat} {x : Value} (hG : GKx g) (ha : h a = some (.inr (19, [x, vz 0, vz 0, vz 0]))) (hB : gB g ≤ a) : Kc g mJ6_init 2 (1) (16) [.ref a] h (rR (fun r h' => r = none ∧ ∃ v : Nat, h v = none ∧ SBh g h' a v 16 [] ∧ Fr g h h' [a])) := by
  refine Kc.of (ls := [some (.ref a)]) (by decide +kernel) (Nat.le_of_ble_eq_true rfl) rfl ?_
  refine ev_aload_n dJ6_init_0 rfl ?_
  refine ev_bipushZ dJ6_init_1 rfl ?_
  refine ev_callVR dJ6_init_3 ci_J6_1 ce_J5_init ha rfl rfl rfl (sb_init5 hG ha hB) (by omega) (by omega) (by omega) (Nat.le_of_ble_eq_true rfl) (fun v1 hp_1 P1 => ?_)
  obtain ⟨rfl, v, ev, H1, fr1⟩ := P1
  have F2 := ((Fr.refl (g := g) _ [a])).call fr1 (fun x hx => Or.inl hx)
  refine ev_return dJ6_init_6 rfl ?_
  exact ⟨_, rfl, rfl, v, ev, H1, F2⟩
set_option maxRecDepth 100000 in
set_option maxHeartbeats 4000000 in
theorem k_copyOfB {a n m : Nat} {A : Nat → Int} (ha : h a = some (.inl (2, (n, .inl (fun j => zI (A j)))))) (hb : ∀ j : Nat, j < n → 0 ≤ A j ∧ A j < 128) (hn : n < 10000000 ∧ m < 10000000 ∧ n ≠ m) : Kc g mJ18_copyOf 1 (1) (m) [.ref a, vz (m : Nat)] h (rR (fun r h' => ∃ q : Nat, r = some (.ref q) ∧ h q = none ∧ gB g ≤ q ∧ h' q = some (.inl (2, (m, .inl (fun j => zI (cpA A (fun _ => 0) 0 0 (min n m) j))))) ∧ Fr g h h' [])) := by
  refine Kc.of (ls := [some (.ref a), some (vz (m : Nat)), none]) (by decide +kernel) (Nat.le_of_ble_eq_true rfl) rfl ?_
  refine ev_iload_n dJ18_copyOf_0 rfl ?_
  refine ev_aload_n dJ18_copyOf_1 rfl ?_
  refine ev_alenZ dJ18_copyOf_2 ha rfl ?_
  refine ev_icmp_neZ (tgt := 14) dJ18_copyOf_3 (by decide) (by omega) (by omega) (fun c3 => ?_) (fun c3 => by omega)
  refine ev_iload_n dJ18_copyOf_14 rfl ?_
  refine ev_newA_byte (N := m) (c' := 0) (k' := 0) dJ18_copyOf_15 (by omega) (by omega) (by omega) (by omega) (by omega) (fun q1 hp_2 e3 B4 Hq1_5 f6 => ?_)
  have ha_7 := (f6 _ (ne_no ha e3)).trans ha
  have z8 := ((Fr.refl (g := g) _ [])).fresh e3
  have F9 := ((Fr.refl (g := g) _ [])).alloc (Or.inr ⟨_, Hq1_5, Nat.le_of_ble_eq_true rfl⟩) f6 e3
  refine ev_astore_n dJ18_copyOf_17 (by decide) rfl ?_
  dsimp only [List.set]
  refine ev_aload_n dJ18_copyOf_18 rfl ?_
  refine ev_iconstZ dJ18_copyOf_19 ?_
  refine ev_aload_n dJ18_copyOf_20 rfl ?_
  refine ev_iconstZ dJ18_copyOf_21 ?_
  refine ev_aload_n dJ18_copyOf_22 rfl ?_
  refine ev_alenZ dJ18_copyOf_23 ha_7 rfl ?_
  refine ev_iload_n dJ18_copyOf_24 rfl ?_
  refine ev_mminN (a := n) (b := m) dJ18_copyOf_25 q472 (by omega) (by omega) (by omega) (Nat.le_of_ble_eq_true rfl) ?_
  refine ev_copyiY (sp := 0) (dp := 0) (n := min n m) dJ18_copyOf_28 q475 ha_7 Hq1_5 (Or.inr ⟨rfl, fun i hi => by have := hb i (by omega); omega⟩) B4 (by omega) (by omega) (by omega) (by omega) (Nat.le_of_ble_eq_true rfl) (fun hp_10 Hq1_11 f12 => ?_)
  have ha_13 := (f12 _ (ne_no ha e3)).trans ha_7
  have F14 := (F9).writeN (Or.inr ⟨_, Hq1_11, Nat.le_of_ble_eq_true rfl⟩) f12 z8
  refine ev_aload_n dJ18_copyOf_31 rfl ?_
  refine ev_areturn dJ18_copyOf_32 rfl (Or.inr ⟨_, rfl⟩) (Or.inr ⟨_, rfl⟩) ?_
  exact ⟨_, rfl, _, rfl, z8, B4, Hq1_11, F14⟩
def ncap (cap m : Nat) : Nat := if m ≤ cap then cap else max m (2 * cap + 2)
set_option maxRecDepth 100000 in
set_option maxHeartbeats 4000000 in
theorem sb_newCap {a v cap : Nat} {t : List Nat} (H : SBh g h a v cap t) {m : Nat} (hm : cap < m ∧ m < 400000 ∧ cap < 400000) : Kc g mJ5_newCapacity 2 (0) (0) [.ref a, vz (m : Nat)] h (sR (some (vz ((ncap cap m : Nat) : Int))) h) := by
  refine Kc.of (ls := [some (.ref a), some (vz (m : Nat)), none, none, none, none]) (by decide +kernel) (Nat.le_of_ble_eq_true rfl) rfl ?_
  obtain ⟨A, ha, hB, hv, hBv, hb, hcp⟩ := id H
  have hnc : inR ((ncap cap m : Nat) : Int) ∧ ((ncap cap m : Nat) : Int) < 1000000 := by unfold ncap; rw [if_neg (by omega)]; omega
  refine ev_aload_n dJ5_newCapacity_0 rfl ?_
  refine ev_getf dJ5_newCapacity_1 gf_J5_15_J6 ha rfl ?_
  refine ev_alenZ dJ5_newCapacity_4 hv rfl ?_
  refine ev_istore_n dJ5_newCapacity_5 (by decide) rfl ?_
  dsimp only [List.set]
  refine ev_iload_n dJ5_newCapacity_6 rfl ?_
  refine ev_aload_n dJ5_newCapacity_7 rfl ?_
  refine ev_getf dJ5_newCapacity_8 gf_J5_22_J6 ha rfl ?_
  refine ev_ishl0 dJ5_newCapacity_11 ?_
  refine ev_istore_n dJ5_newCapacity_12 (by decide) rfl ?_
  dsimp only [List.set]
  refine ev_iload_n dJ5_newCapacity_13 rfl ?_
  refine ev_iload_n dJ5_newCapacity_14 rfl ?_
  refine ev_isubZ dJ5_newCapacity_15 ?_
  refine ev_istore dJ5_newCapacity_16 (by decide) rfl ?_
  dsimp only [List.set]
  refine ev_iload_n dJ5_newCapacity_18 rfl ?_
  refine ev_iload dJ5_newCapacity_19 rfl ?_
  refine ev_iload_n dJ5_newCapacity_21 rfl ?_
  refine ev_iconstZ dJ5_newCapacity_22 ?_
  refine ev_aload_n dJ5_newCapacity_23 rfl ?_
  refine ev_getf dJ5_newCapacity_24 gf_J5_22_J6 ha rfl ?_
  refine ev_ishl0 dJ5_newCapacity_27 ?_
  refine ev_iaddZ dJ5_newCapacity_28 ?_
  refine ev_callSE dJ5_newCapacity_29 cs_J5_114 ce_J25_newLength rfl rfl (k_newLen (a := (cap : Int)) (b := (m : Int) - (cap : Int)) (e := (cap : Int) + 2) (by omega)) (by omega) (Nat.le_of_ble_eq_true rfl) ?_
  refine ev_to (b := ((ncap cap m : Nat) : Int)) (by unfold ncap; rw [if_neg (by omega)]; omega) ?_
  refine ev_istore dJ5_newCapacity_32 (by decide) rfl ?_
  dsimp only [List.set]
  refine ev_iload dJ5_newCapacity_34 rfl ?_
  refine ev_ldciZ (n := 2147483647) (v := 2147483647) dJ5_newCapacity_36 q461 (by decide) ?_
  refine ev_icmp_neZ (tgt := 51) dJ5_newCapacity_38 (by decide) (by omega) (by omega) (fun c38 => ?_) (fun c38 => by omega)
  refine ev_iload dJ5_newCapacity_51 rfl ?_
  refine ev_aload_n dJ5_newCapacity_53 rfl ?_
  refine ev_getf dJ5_newCapacity_54 gf_J5_22_J6 ha rfl ?_
  refine ev_ishr0 dJ5_newCapacity_57 ?_
  refine ev_ireturn dJ5_newCapacity_58 rfl ?_
  exact ⟨rfl, rfl⟩
theorem cp_bt {A : Nat → Int} {cap n : Nat} {t : List Nat} (hb : btA A cap t) (hn : cap ≤ n) : btA (cpA A (fun _ => 0) 0 0 (min cap n)) n t := by
  refine ⟨fun j hj => ?_, fun j x hx => ?_, by have := hb.2.2; omega⟩
  · unfold cpA
    by_cases c : 0 ≤ j ∧ j < 0 + min cap n
    · rw [if_pos c]; exact hb.1 _ (by omega)
    · rw [if_neg c]; exact (show (0 : Int) ≤ 0 ∧ (0 : Int) < 128 by decide)
  · have := (List.getElem?_eq_some_iff.mp hx).1
    have := hb.2.2
    unfold cpA
    rw [if_pos (by omega), show 0 + (j - 0) = j by omega]
    exact hb.2.1 j x hx
set_option maxRecDepth 100000 in
set_option maxHeartbeats 4000000 in
theorem sb_ensure {a v cap : Nat} {t : List Nat} (H : SBh g h a v cap t) {m : Nat} (hm : m < 400000 ∧ cap < 400000) (hbud : cap < m → 1 ≤ c ∧ ncap cap m ≤ k) : Kc g mJ5_ensureCapacityInternal 3 (c) (k) [.ref a, vz (m : Nat)] h (rR (fun r h' => r = none ∧ ∃ v' : Nat, SBh g h' a v' (ncap cap m) t ∧ (v' = v ∨ h v' = none) ∧ Fr g h h' [a])) := by
  refine Kc.of (ls := [some (.ref a), some (vz (m : Nat)), none]) (by decide +kernel) (Nat.le_of_ble_eq_true rfl) rfl ?_
  obtain ⟨A, ha, hB, hv, hBv, hb, hcp⟩ := id H
  refine ev_aload_n dJ5_ensureCapacityInternal_0 rfl ?_
  refine ev_getf dJ5_ensureCapacityInternal_1 gf_J5_15_J6 ha rfl ?_
  refine ev_alenZ dJ5_ensureCapacityInternal_4 hv rfl ?_
  refine ev_aload_n dJ5_ensureCapacityInternal_5 rfl ?_
  refine ev_getf dJ5_ensureCapacityInternal_6 gf_J5_22_J6 ha rfl ?_
  refine ev_ishr0 dJ5_ensureCapacityInternal_9 ?_
  refine ev_istore_n dJ5_ensureCapacityInternal_10 (by decide) rfl ?_
  dsimp only [List.set]
  refine ev_iload_n dJ5_ensureCapacityInternal_11 rfl ?_
  refine ev_iload_n dJ5_ensureCapacityInternal_12 rfl ?_
  refine ev_isubZ dJ5_ensureCapacityInternal_13 ?_
  refine ev_if_leZ (tgt := 38) dJ5_ensureCapacityInternal_14 (by decide) (by omega) (fun c14 => ?_) (fun c14 => ?_)
  · have hc1 : m ≤ cap := by omega
    have e1 : ncap cap m = cap := if_pos hc1
    refine ev_return dJ5_ensureCapacityInternal_38 rfl ?_
    have hbt := hb
    exact ⟨_, rfl, rfl, v, ⟨A, ha, hB, by rw [e1]; exact hv, hBv, by rw [e1]; exact hb, by omega⟩, Or.inl rfl, (Fr.refl (g := g) _ [a])⟩
  · have hc1 : ¬ m ≤ cap := by omega
    have hbud := hbud (by omega)
    have e1 : ncap cap m = max m (2 * cap + 2) := if_neg hc1
    refine ev_aload_n dJ5_ensureCapacityInternal_17 rfl ?_
    refine ev_aload_n dJ5_ensureCapacityInternal_18 rfl ?_
    refine ev_getf dJ5_ensureCapacityInternal_19 gf_J5_15_J6 ha rfl ?_
    refine ev_aload_n dJ5_ensureCapacityInternal_22 rfl ?_
    refine ev_iload_n dJ5_ensureCapacityInternal_23 rfl ?_
    refine ev_callVE dJ5_ensureCapacityInternal_24 cv_J5_104_J6 ce_J5_newCapacity ha rfl rfl rfl (sb_newCap H (by omega)) (by omega) (Nat.le_of_ble_eq_true rfl) ?_
    refine ev_aload_n dJ5_ensureCapacityInternal_27 rfl ?_
    refine ev_getf dJ5_ensureCapacityInternal_28 gf_J5_22_J6 ha rfl ?_
    refine ev_ishl0 dJ5_ensureCapacityInternal_31 ?_
    refine ev_callSR dJ5_ensureCapacityInternal_32 cs_J5_108 ce_J18_copyOf rfl rfl (k_copyOfB (m := ncap cap m) hv hb.1 (by omega)) (by omega) (by omega) (by omega) (Nat.le_of_ble_eq_true rfl) (fun v1 hp_1 P1 => ?_)
    obtain ⟨q, rfl, eq1, Bq1, Hq1, frq⟩ := P1
    have ha_2 := frq.keep ha (fun q => by cases q)
    have hv_3 := frq.keep hv (fun q => by cases q)
    have F4 := ((Fr.refl (g := g) _ [a])).call frq nil_in
    refine ev_putC [.ref q, vz 0, vz 0, vz (t.length : Nat)] dJ5_ensureCapacityInternal_35 gf_J5_15_J6 ha_2 hB (Or.inl rfl) rfl rfl (Nat.le_of_ble_eq_true rfl) rfl (fun hp_5 ha_6 f7 => ?_)
    have hv_8 := (f7 _ (ne_of hv_3 ha_2 (by simp))).trans hv_3
    have Hq1_9 := (f7 _ (ne_of Hq1 ha_2 (by simp))).trans Hq1
    have F10 := (F4).write (Or.inl ⟨_, ha_6⟩) f7 hB (by simp)
    refine ev_return dJ5_ensureCapacityInternal_38 rfl ?_
    have hbt := hb
    exact ⟨_, rfl, rfl, q, ⟨_, ha_6, hB, Hq1_9, Bq1, cp_bt hb (by omega), by omega⟩, Or.inr eq1, F10⟩
end J9S

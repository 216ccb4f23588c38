/-! THE COMPONENT: the constructors of nodes (printed by gen) -/
section S1S
variable {g : GB} {M : MI} {d c k : Nat} {h : HM}
set_option maxRecDepth 100000 in
set_option maxHeartbeats 4000000 in
theorem k_i8 {a : Nat} : Kc g mX8_init 1 (0) (0) [.ref a] h (sR none h) := by
  refine Kc.of (ls := [some (.ref a)]) (by decide +kernel) (Nat.le_of_ble_eq_true rfl) rfl ?_
  refine ev_aload_n dX8_init_0 rfl ?_
  refine ev_objInit dX8_init_1 q1732 q183 q184 (by omega) rfl ?_
  refine ev_return dX8_init_4 rfl ?_
  exact ⟨rfl, rfl⟩
set_option maxRecDepth 100000 in
set_option maxHeartbeats 4000000 in
theorem k_i11X12 {a : Nat} (ha : h a = some (.inr (8, []))) : Kc g mX11_init 2 (0) (0) [.ref a] h (sR none h) := by
  refine Kc.of (ls := [some (.ref a)]) (by decide +kernel) (Nat.le_of_ble_eq_true rfl) rfl ?_
  refine ev_aload_n dX11_init_0 rfl ?_
  refine ev_callVN dX11_init_1 ci_X11_1 ce_X8_init ha rfl rfl rfl (k_i8) (by omega) (Nat.le_of_ble_eq_true rfl) ?_
  refine ev_return dX11_init_4 rfl ?_
  exact ⟨rfl, rfl⟩
set_option maxRecDepth 100000 in
set_option maxHeartbeats 4000000 in
theorem k_i11X13 {a : Nat} {x y z : Value} (ha : h a = some (.inr (9, [x, y, z]))) : Kc g mX11_init 2 (0) (0) [.ref a] h (sR none h) := by
  refine Kc.of (ls := [some (.ref a)]) (by decide +kernel) (Nat.le_of_ble_eq_true rfl) rfl ?_
  refine ev_aload_n dX11_init_0 rfl ?_
  refine ev_callVN dX11_init_1 ci_X11_1 ce_X8_init ha rfl rfl rfl (k_i8) (by omega) (Nat.le_of_ble_eq_true rfl) ?_
  refine ev_return dX11_init_4 rfl ?_
  exact ⟨rfl, rfl⟩
set_option maxRecDepth 100000 in
set_option maxHeartbeats 4000000 in
theorem k_i12 {a : Nat} (ha : h a = some (.inr (8, []))) : Kc g mX12_init 3 (0) (0) [.ref a] h (sR none h) := by
  refine Kc.of (ls := [some (.ref a)]) (by decide +kernel) (Nat.le_of_ble_eq_true rfl) rfl ?_
  refine ev_aload_n dX12_init_0 rfl ?_
  refine ev_callVN dX12_init_1 ci_X12_1 ce_X11_init ha rfl rfl rfl (k_i11X12 ha) (by omega) (Nat.le_of_ble_eq_true rfl) ?_
  refine ev_return dX12_init_4 rfl ?_
  exact ⟨rfl, rfl⟩
set_option maxRecDepth 100000 in
set_option maxHeartbeats 4000000 in
theorem k_i9X10 {a p : Nat} {x y : Value} (ha : h a = some (.inr (7, [x, y]))) (hB : gB g ≤ a) : Kc g mX9_init 2 (0) (0) [.ref a, .ref p] h (rR (fun v h' => v = none ∧ h' a = some (.inr (7, [.ref p, y])) ∧ Fr g h h' [a])) := by
  refine Kc.of (ls := [some (.ref a), some (.ref p)]) (by decide +kernel) (Nat.le_of_ble_eq_true rfl) rfl ?_
  refine ev_aload_n dX9_init_0 rfl ?_
  refine ev_callVN dX9_init_1 ci_X9_1 ce_X8_init ha rfl rfl rfl (k_i8) (by omega) (Nat.le_of_ble_eq_true rfl) ?_
  refine ev_aload_n dX9_init_4 rfl ?_
  refine ev_aload_n dX9_init_5 rfl ?_
  refine ev_putC [.ref p, y] dX9_init_6 gf_X9_7_X10 ha hB (Or.inr ⟨rfl, rfl⟩) rfl rfl (Nat.le_of_ble_eq_true rfl) rfl (fun hp_1 ha_2 f3 => ?_)
  have F4 := ((Fr.refl (g := g) _ [a])).write (Or.inl ⟨_, ha_2⟩) f3 hB (by simp)
  refine ev_return dX9_init_9 rfl ?_
  exact ⟨_, rfl, rfl, ha_2, F4⟩
set_option maxRecDepth 100000 in
set_option maxHeartbeats 4000000 in
theorem k_i9X14 {a p : Nat} {x : Value} (ha : h a = some (.inr (10, [x]))) (hB : gB g ≤ a) : Kc g mX9_init 2 (0) (0) [.ref a, .ref p] h (rR (fun v h' => v = none ∧ h' a = some (.inr (10, [.ref p])) ∧ Fr g h h' [a])) := by
  refine Kc.of (ls := [some (.ref a), some (.ref p)]) (by decide +kernel) (Nat.le_of_ble_eq_true rfl) rfl ?_
  refine ev_aload_n dX9_init_0 rfl ?_
  refine ev_callVN dX9_init_1 ci_X9_1 ce_X8_init ha rfl rfl rfl (k_i8) (by omega) (Nat.le_of_ble_eq_true rfl) ?_
  refine ev_aload_n dX9_init_4 rfl ?_
  refine ev_aload_n dX9_init_5 rfl ?_
  refine ev_putC [.ref p] dX9_init_6 gf_X9_7_X14 ha hB (Or.inr ⟨rfl, rfl⟩) rfl rfl (Nat.le_of_ble_eq_true rfl) rfl (fun hp_1 ha_2 f3 => ?_)
  have F4 := ((Fr.refl (g := g) _ [a])).write (Or.inl ⟨_, ha_2⟩) f3 hB (by simp)
  refine ev_return dX9_init_9 rfl ?_
  exact ⟨_, rfl, rfl, ha_2, F4⟩
set_option maxRecDepth 100000 in
set_option maxHeartbeats 4000000 in
theorem k_i9X15 {a p : Nat} {x : Value} (ha : h a = some (.inr (11, [x]))) (hB : gB g ≤ a) : Kc g mX9_init 2 (0) (0) [.ref a, .ref p] h (rR (fun v h' => v = none ∧ h' a = some (.inr (11, [.ref p])) ∧ Fr g h h' [a])) := by
  refine Kc.of (ls := [some (.ref a), some (.ref p)]) (by decide +kernel) (Nat.le_of_ble_eq_true rfl) rfl ?_
  refine ev_aload_n dX9_init_0 rfl ?_
  refine ev_callVN dX9_init_1 ci_X9_1 ce_X8_init ha rfl rfl rfl (k_i8) (by omega) (Nat.le_of_ble_eq_true rfl) ?_
  refine ev_aload_n dX9_init_4 rfl ?_
  refine ev_aload_n dX9_init_5 rfl ?_
  refine ev_putC [.ref p] dX9_init_6 gf_X9_7_X15 ha hB (Or.inr ⟨rfl, rfl⟩) rfl rfl (Nat.le_of_ble_eq_true rfl) rfl (fun hp_1 ha_2 f3 => ?_)
  have F4 := ((Fr.refl (g := g) _ [a])).write (Or.inl ⟨_, ha_2⟩) f3 hB (by simp)
  refine ev_return dX9_init_9 rfl ?_
  exact ⟨_, rfl, rfl, ha_2, F4⟩
set_option maxRecDepth 100000 in
set_option maxHeartbeats 4000000 in
theorem k_i14 {a p : Nat} {x : Value} (ha : h a = some (.inr (10, [x]))) (hB : gB g ≤ a) : Kc g mX14_init 3 (0) (0) [.ref a, .ref p] h (rR (fun v h' => v = none ∧ h' a = some (.inr (10, [.ref p])) ∧ Fr g h h' [a])) := by
  refine Kc.of (ls := [some (.ref a), some (.ref p)]) (by decide +kernel) (Nat.le_of_ble_eq_true rfl) rfl ?_
  refine ev_aload_n dX14_init_0 rfl ?_
  refine ev_aload_n dX14_init_1 rfl ?_
  refine ev_callVR dX14_init_2 ci_X14_3 ce_X9_init ha rfl rfl rfl (k_i9X14 ha hB) (by omega) (by omega) (by omega) (Nat.le_of_ble_eq_true rfl) (fun v1 hp_1 P1 => ?_)
  obtain ⟨rfl, H1, fr1⟩ := P1
  have F2 := ((Fr.refl (g := g) _ [a])).call fr1 (by intro x hx; exact Or.inl hx)
  refine ev_return dX14_init_5 rfl ?_
  exact ⟨_, rfl, rfl, H1, F2⟩
set_option maxRecDepth 100000 in
set_option maxHeartbeats 4000000 in
theorem k_i15 {a p : Nat} {x : Value} (ha : h a = some (.inr (11, [x]))) (hB : gB g ≤ a) : Kc g mX15_init 3 (0) (0) [.ref a, .ref p] h (rR (fun v h' => v = none ∧ h' a = some (.inr (11, [.ref p])) ∧ Fr g h h' [a])) := by
  refine Kc.of (ls := [some (.ref a), some (.ref p)]) (by decide +kernel) (Nat.le_of_ble_eq_true rfl) rfl ?_
  refine ev_aload_n dX15_init_0 rfl ?_
  refine ev_aload_n dX15_init_1 rfl ?_
  refine ev_callVR dX15_init_2 ci_X15_3 ce_X9_init ha rfl rfl rfl (k_i9X15 ha hB) (by omega) (by omega) (by omega) (Nat.le_of_ble_eq_true rfl) (fun v1 hp_1 P1 => ?_)
  obtain ⟨rfl, H1, fr1⟩ := P1
  have F2 := ((Fr.refl (g := g) _ [a])).call fr1 (by intro x hx; exact Or.inl hx)
  refine ev_return dX15_init_5 rfl ?_
  exact ⟨_, rfl, rfl, H1, F2⟩
set_option maxRecDepth 100000 in
set_option maxHeartbeats 4000000 in
theorem k_i10 {a p : Nat} {n : Int} {x y : Value} (ha : h a = some (.inr (7, [x, y]))) (hB : gB g ≤ a) : Kc g mX10_init 3 (0) (0) [.ref a, vz n, .ref p] h (rR (fun v h' => v = none ∧ h' a = some (.inr (7, [.ref p, vz n])) ∧ Fr g h h' [a])) := by
  refine Kc.of (ls := [some (.ref a), some (vz n), some (.ref p)]) (by decide +kernel) (Nat.le_of_ble_eq_true rfl) rfl ?_
  refine ev_aload_n dX10_init_0 rfl ?_
  refine ev_aload_n dX10_init_1 rfl ?_
  refine ev_callVR dX10_init_2 ci_X10_1 ce_X9_init ha rfl rfl rfl (k_i9X10 ha hB) (by omega) (by omega) (by omega) (Nat.le_of_ble_eq_true rfl) (fun v1 hp_1 P1 => ?_)
  obtain ⟨rfl, H1, fr1⟩ := P1
  have F2 := ((Fr.refl (g := g) _ [a])).call fr1 (by intro x hx; exact Or.inl hx)
  refine ev_aload_n dX10_init_5 rfl ?_
  refine ev_iload_n dX10_init_6 rfl ?_
  refine ev_putC [.ref p, vz n] dX10_init_7 gf_X10_7_X10 H1 hB (Or.inr ⟨rfl, rfl⟩) rfl rfl (Nat.le_of_ble_eq_true rfl) rfl (fun hp_3 H1_4 f5 => ?_)
  have F6 := (F2).write (Or.inl ⟨_, H1_4⟩) f5 hB (by simp)
  refine ev_return dX10_init_10 rfl ?_
  exact ⟨_, rfl, rfl, H1_4, F6⟩
set_option maxRecDepth 100000 in
set_option maxHeartbeats 4000000 in
theorem k_i16 {a p : Nat} {b : Bool} {x y : Value} (ha : h a = some (.inr (12, [x, y]))) (hB : gB g ≤ a) : Kc g mX16_init 2 (0) (0) [.ref a, vz (bI b), .ref p] h (rR (fun v h' => v = none ∧ h' a = some (.inr (12, [vz (bI b), .ref p])) ∧ Fr g h h' [a])) := by
  refine Kc.of (ls := [some (.ref a), some (vz (bI b)), some (.ref p)]) (by decide +kernel) (Nat.le_of_ble_eq_true rfl) rfl ?_
  refine ev_aload_n dX16_init_0 rfl ?_
  refine ev_callVN dX16_init_1 ci_X16_3 ce_X8_init ha rfl rfl rfl (k_i8) (by omega) (Nat.le_of_ble_eq_true rfl) ?_
  refine ev_aload_n dX16_init_4 rfl ?_
  refine ev_iload_n dX16_init_5 rfl ?_
  refine ev_putC [vz (bI b), y] dX16_init_6 gf_X16_9_X16 ha hB (Or.inr ⟨rfl, rfl⟩) (by cases b <;> rfl) (by cases b <;> rfl) (Nat.le_of_ble_eq_true rfl) rfl (fun hp_1 ha_2 f3 => ?_)
  have F4 := ((Fr.refl (g := g) _ [a])).write (Or.inl ⟨_, ha_2⟩) f3 hB (by simp)
  refine ev_aload_n dX16_init_9 rfl ?_
  refine ev_aload_n dX16_init_10 rfl ?_
  refine ev_putC [vz (bI b), .ref p] dX16_init_11 gf_X16_15_X16 ha_2 hB (Or.inr ⟨rfl, rfl⟩) rfl rfl (Nat.le_of_ble_eq_true rfl) rfl (fun hp_5 ha_6 f7 => ?_)
  have F8 := (F4).write (Or.inl ⟨_, ha_6⟩) f7 hB (by simp)
  refine ev_return dX16_init_14 rfl ?_
  exact ⟨_, rfl, rfl, ha_6, F8⟩
set_option maxRecDepth 100000 in
set_option maxHeartbeats 4000000 in
theorem k_i13 {a st da : Nat} {n : Int} {x y z : Value} (ha : h a = some (.inr (9, [x, y, z]))) (hB : gB g ≤ a) : Kc g mX13_init 3 (0) (0) [.ref a, vz n, .ref st, .ref da] h (rR (fun v h' => v = none ∧ h' a = some (.inr (9, [vz n, .ref da, .ref st])) ∧ Fr g h h' [a])) := by
  refine Kc.of (ls := [some (.ref a), some (vz n), some (.ref st), some (.ref da)]) (by decide +kernel) (Nat.le_of_ble_eq_true rfl) rfl ?_
  refine ev_aload_n dX13_init_0 rfl ?_
  refine ev_callVN dX13_init_1 ci_X13_3 ce_X11_init ha rfl rfl rfl (k_i11X13 ha) (by omega) (Nat.le_of_ble_eq_true rfl) ?_
  refine ev_aload_n dX13_init_4 rfl ?_
  refine ev_iload_n dX13_init_5 rfl ?_
  refine ev_putC [vz n, y, z] dX13_init_6 gf_X13_9_X13 ha hB (Or.inr ⟨rfl, rfl⟩) rfl rfl (Nat.le_of_ble_eq_true rfl) rfl (fun hp_1 ha_2 f3 => ?_)
  have F4 := ((Fr.refl (g := g) _ [a])).write (Or.inl ⟨_, ha_2⟩) f3 hB (by simp)
  refine ev_aload_n dX13_init_9 rfl ?_
  refine ev_aload_n dX13_init_10 rfl ?_
  refine ev_putC [vz n, y, .ref st] dX13_init_11 gf_X13_15_X13 ha_2 hB (Or.inr ⟨rfl, rfl⟩) rfl rfl (Nat.le_of_ble_eq_true rfl) rfl (fun hp_5 ha_6 f7 => ?_)
  have F8 := (F4).write (Or.inl ⟨_, ha_6⟩) f7 hB (by simp)
  refine ev_aload_n dX13_init_14 rfl ?_
  refine ev_aload_n dX13_init_15 rfl ?_
  refine ev_putC [vz n, .ref da, .ref st] dX13_init_16 gf_X13_19_X13 ha_6 hB (Or.inr ⟨rfl, rfl⟩) rfl rfl (Nat.le_of_ble_eq_true rfl) rfl (fun hp_9 ha_10 f11 => ?_)
  have F12 := (F8).write (Or.inl ⟨_, ha_10⟩) f11 hB (by simp)
  refine ev_return dX13_init_19 rfl ?_
  exact ⟨_, rfl, rfl, ha_10, F12⟩
/-! new immutable cells -/
/-- I has grown to J, between h and h': its new cells are new -/
def capOk (x : Option MO) : Prop := ∀ (cap : Nat) (f : Nat → Option Nat), x = some (.inl (9, (cap, .inr (.inr (.inr (.inr f)))))) → cap ≤ 10000000
def Gw (I h J h' : HM) : Prop := Sub I J ∧ Sub J h' ∧ ∀ x : Nat, J x ≠ none → I x ≠ none ∨ (h x = none ∧ capOk (J x))
/-- the lists' arrays of I are not large -/
def CapI (I : HM) : Prop := ∀ x : Nat, capOk (I x)
theorem sub_val {I J : HM} (hS : Sub I J) {x : Nat} (hx : I x ≠ none) : J x = I x := by
  cases q : I x with
  | none => exact absurd q hx
  | some e => exact hS x e q
theorem Gw.cap {I h J h' : HM} (G : Gw I h J h') (hC : CapI I) : CapI J := fun x => by
  by_cases q : J x = none
  · intro cap f e; rw [q] at e; cases e
  · rcases G.2.2 x q with r | r
    · rw [sub_val G.1 r]; exact hC x
    · exact r.2
theorem Gw.refl {I h : HM} (hI : Sub I h) : Gw I h I h := ⟨Sub.refl I, hI, fun _ q => Or.inl q⟩
theorem Gw.nn {I h J h' : HM} (G : Gw I h J h') {x : Nat} (h1 : h x ≠ none) (h2 : I x = none) : J x = none := by
  cases q : J x with
  | none => rfl
  | some e => rcases G.2.2 x (by rw [q]; exact fun q => by cases q) with r | r
              · exact absurd h2 r
              · exact absurd r.1 h1
theorem Gw.fr {I h J h1 h2 : HM} {S : List Nat} (G : Gw I h J h1) (f : Fr g h1 h2 S) (hS : ∀ x : Nat, x ∈ S → J x = none ∨ x < gB g) : Gw I h J h2 := ⟨G.1, G.2.1.fr f hS, G.2.2⟩
theorem Gw.fr0 {I h J h1 h2 : HM} (G : Gw I h J h1) (f : Fr g h1 h2 []) : Gw I h J h2 := G.fr f (fun x hx => by cases hx)
theorem Gw.trans {I h J h1 K h2 : HM} {S : List Nat} (G : Gw I h J h1) (f : Fr g h h1 S) (G2 : Gw J h1 K h2) : Gw I h K h2 := ⟨G.1.trans G2.1, G2.2.1, fun x q => by
  rcases G2.2.2 x q with r | r
  · rcases G.2.2 x r with r2 | r2
    · exact Or.inl r2
    · exact Or.inr ⟨r2.1, by rw [sub_val G2.1 r]; exact r2.2⟩
  · exact Or.inr ⟨f.fresh r.1, r.2⟩⟩
theorem ALh.cap {a v cap : Nat} {mc : Int} {l : List Nat} {f : Nat → Option Nat} (H : ALh g h a v cap mc l) (hl : l.length < 1000000) : capOk (some (.inl (9, (cap, .inr (.inr (.inr (.inr f))))))) := fun c2 f2 q => by
  cases q; have := H.2.2.2.2.2.1; omega
theorem Gw.add {I h J h1 : HM} (G : Gw I h J h1) (hI : Sub I h) {q : Nat} {e : MO} (hq : h1 q = some e) (hn : h q = none) (he : capOk (some e) := by intro _ _ q; cases q) : Gw I h (hs J q e) h1 := by
  refine ⟨fun x y hx => ?_, G.2.1.add hq, fun x hx => ?_⟩
  · have : x ≠ q := fun c => by rw [c, hI.none hn] at hx; cases hx
    rw [hs_ne this]; exact G.1 x y hx
  · by_cases c : x = q
    · rw [c]; exact Or.inr ⟨hn, by rw [hs_same]; exact he⟩
    · rw [hs_ne c] at hx ⊢; exact G.2.2 x hx
theorem Gw.subadd {I h J h1 : HM} (G : Gw I h J h1) {q : Nat} {e : MO} (hq : h1 q = some e) : Sub J (hs J q e) := fun x y hx => by
  by_cases c : x = q
  · have := G.2.1 x y hx
    rw [c, hq] at this
    rw [c, hs_same, ← Option.some.inj this]
  · rw [hs_ne c]; exact hx
end S1S

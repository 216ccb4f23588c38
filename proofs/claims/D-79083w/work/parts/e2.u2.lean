/-! THE COMPONENT: new Command, carryOut of any command (printed by gen) -/
section U2S
variable {g : GB} {M : MI} {d c k : Nat} {h : HM}
set_option maxRecDepth 100000 in
set_option maxHeartbeats 4000000 in
theorem k_initX4n {a vb nu : Nat} (ha : h a = some (.inr (3, [.null, .null, .null]))) (hB : gB g ≤ a) : Kc g mX4_init 2 (0) (0) [.ref a, .ref vb, .null, .ref nu] h (rR (fun v h' => v = none ∧ h' a = some (.inr (3, [.ref vb, .null, .ref nu])) ∧ Fr g h h' [a])) := by
  refine Kc.of (ls := [some (.ref a), some (.ref vb), some (.null), some (.ref nu)]) (by decide +kernel) (Nat.le_of_ble_eq_true rfl) rfl ?_
  refine ev_aload_n dX4_init_0 rfl ?_
  refine ev_objInit dX4_init_1 q1481 q183 q184 (by omega) rfl ?_
  refine ev_aload_n dX4_init_4 rfl ?_
  refine ev_aload_n dX4_init_5 rfl ?_
  refine ev_putC [.ref vb, .null, .null] dX4_init_6 gf_X4_9_X4 ha hB (Or.inr ⟨rfl, rfl⟩) rfl rfl (Nat.le_of_ble_eq_true rfl) rfl (fun hp_1 ha_2 f3 => ?_)
  have F4 := ((Fr.refl (g := g) _ [a])).write (Or.inl ⟨_, ha_2⟩) f3 hB (by simp)
  refine ev_aload_n dX4_init_9 rfl ?_
  refine ev_aload_nN dX4_init_10 rfl ?_
  refine ev_putC [.ref vb, .null, .null] dX4_init_11 gf_X4_15_X4 ha_2 hB (Or.inr ⟨rfl, rfl⟩) rfl rfl (Nat.le_of_ble_eq_true rfl) rfl (fun hp_5 ha_6 f7 => ?_)
  have F8 := (F4).write (Or.inl ⟨_, ha_6⟩) f7 hB (by simp)
  refine ev_aload_n dX4_init_14 rfl ?_
  refine ev_aload_n dX4_init_15 rfl ?_
  refine ev_putC [.ref vb, .null, .ref nu] dX4_init_16 gf_X4_19_X4 ha_6 hB (Or.inr ⟨rfl, rfl⟩) rfl rfl (Nat.le_of_ble_eq_true rfl) rfl (fun hp_9 ha_10 f11 => ?_)
  have F12 := (F8).write (Or.inl ⟨_, ha_10⟩) f11 hB (by simp)
  refine ev_return dX4_init_19 rfl ?_
  exact ⟨_, rfl, rfl, ha_10, F12⟩
set_option maxRecDepth 100000 in
set_option maxHeartbeats 4000000 in
theorem k_initX4r {a vb nu : Nat} {p : Nat} (ha : h a = some (.inr (3, [.null, .null, .null]))) (hB : gB g ≤ a) : Kc g mX4_init 2 (0) (0) [.ref a, .ref vb, .ref p, .ref nu] h (rR (fun v h' => v = none ∧ h' a = some (.inr (3, [.ref vb, .ref p, .ref nu])) ∧ Fr g h h' [a])) := by
  refine Kc.of (ls := [some (.ref a), some (.ref vb), some (.ref p), some (.ref nu)]) (by decide +kernel) (Nat.le_of_ble_eq_true rfl) rfl ?_
  refine ev_aload_n dX4_init_0 rfl ?_
  refine ev_objInit dX4_init_1 q1481 q183 q184 (by omega) rfl ?_
  refine ev_aload_n dX4_init_4 rfl ?_
  refine ev_aload_n dX4_init_5 rfl ?_
  refine ev_putC [.ref vb, .null, .null] dX4_init_6 gf_X4_9_X4 ha hB (Or.inr ⟨rfl, rfl⟩) rfl rfl (Nat.le_of_ble_eq_true rfl) rfl (fun hp_1 ha_2 f3 => ?_)
  have F4 := ((Fr.refl (g := g) _ [a])).write (Or.inl ⟨_, ha_2⟩) f3 hB (by simp)
  refine ev_aload_n dX4_init_9 rfl ?_
  refine ev_aload_n dX4_init_10 rfl ?_
  refine ev_putC [.ref vb, .ref p, .null] dX4_init_11 gf_X4_15_X4 ha_2 hB (Or.inr ⟨rfl, rfl⟩) rfl rfl (Nat.le_of_ble_eq_true rfl) rfl (fun hp_5 ha_6 f7 => ?_)
  have F8 := (F4).write (Or.inl ⟨_, ha_6⟩) f7 hB (by simp)
  refine ev_aload_n dX4_init_14 rfl ?_
  refine ev_aload_n dX4_init_15 rfl ?_
  refine ev_putC [.ref vb, .ref p, .ref nu] dX4_init_16 gf_X4_19_X4 ha_6 hB (Or.inr ⟨rfl, rfl⟩) rfl rfl (Nat.le_of_ble_eq_true rfl) rfl (fun hp_9 ha_10 f11 => ?_)
  have F12 := (F8).write (Or.inl ⟨_, ha_10⟩) f11 hB (by simp)
  refine ev_return dX4_init_19 rfl ?_
  exact ⟨_, rfl, rfl, ha_10, F12⟩
/-- a command's piece is sound -/
def cmOk (C : Cm) : Prop := C.1 = 1 → C.2.2.length < 1000000 ∧ (∀ nd ∈ C.2.2, ndOk2 nd) ∧ sem C.2.2 = .ok (mean C.2.2)
/-- what its carrying out costs -/
def cmK (C : Cm) : Nat := if C.1 = 1 then 9 * (mean C.2.2).1.1 + 17 else 0
theorem k_carry {I : HM} {a st fo cm : Nat} {C : Cm} {D : Dn} (hG : GKx g) (hSI : Sub I h) (H : DnC g I h a st fo D) (hna : ∀ x ∈ dnS a st fo, I x = none) (hC : CmC g I cm C) (hok : cmOk C) (hd : 497 ≤ d) (hc : 12 ≤ c) (hk : cmK C ≤ k) : Kc g mX4_carryOut d c k [.ref cm, .ref a] h (rR (fun v h' => ∃ J : HM, v = some (vz (cmV C D)) ∧ Gw I h J h' ∧ DnC g J h' a st fo (cmD C D) ∧ Fr g h h' (dnS a st fo))) := by
  rcases hC with ⟨h1, h2, nu, N, h3, h4, h5, h6⟩ | ⟨h1, nu, p, h3, h4⟩ | ⟨h1, h2, h2b, nu, N, h3, h4, h5, h6, h7⟩
  · exact k_co0 hG hSI H hna h1 h2 h3 h4 h5 h6 (by omega)
  · obtain ⟨q1, q2, q3⟩ := hok h1
    unfold cmK at hk
    rw [if_pos h1] at hk
    exact k_co1 hG hSI H hna h1 h3 h4 q1 q2 q3 hd hc hk
  · exact k_co2 hG hSI H hna h1 h2 h2b h3 h4 h5 h6 h7 (by omega)
end U2S

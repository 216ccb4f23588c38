/-! THE COMPONENT: new Parser (printed by gen) -/
section V1S
variable {g : GB} {M : MI} {d c k : Nat} {h : HM}
set_option maxRecDepth 100000 in
set_option maxHeartbeats 4000000 in
theorem k_initX6 {a tb : Nat} {x : Value} (ha : h a = some (.inr (5, [x, vz 0, vz 0]))) (hB : gB g ≤ a) : Kc g mX6_init 1 (0) (0) [.ref a, .ref tb] h (rR (fun v h' => v = none ∧ ParC h' a tb 0 0 ∧ Fr g h h' [a])) := by
  refine Kc.of (ls := [some (.ref a), some (.ref tb)]) (by decide +kernel) (Nat.le_of_ble_eq_true rfl) rfl ?_
  refine ev_aload_n dX6_init_0 rfl ?_
  refine ev_objInit dX6_init_1 q1596 q183 q184 (by omega) rfl ?_
  refine ev_aload_n dX6_init_4 rfl ?_
  refine ev_aload_n dX6_init_5 rfl ?_
  refine ev_putC [.ref tb, vz 0, vz 0] dX6_init_6 gf_X6_9_X6 ha hB (Or.inr ⟨rfl, rfl⟩) rfl rfl (Nat.le_of_ble_eq_true rfl) rfl (fun hp_1 ha_2 f3 => ?_)
  have F4 := ((Fr.refl (g := g) _ [a])).write (Or.inl ⟨_, ha_2⟩) f3 hB (by simp)
  refine ev_return dX6_init_9 rfl ?_
  exact ⟨_, rfl, rfl, ha_2, F4⟩
end V1S

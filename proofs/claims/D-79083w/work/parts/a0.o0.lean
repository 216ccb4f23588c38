/-! THE COMPONENT: instanceof of nodes (printed by gen) -/
section O0S
variable {g : GB} {M : MI} {d c k : Nat} {h : HM}
section
variable {Q : RS → HM → Prop} {pc : Nat} {ls : List (Option Value)} {st : List Value}
theorem ev_instSev {idx b κ : Nat} (hG : GKx g) (hd : decode M.2.1 pc = .ok (.instanceof idx, 3)) (hw : (Jvm.Cond.classLink M.1.cls idx "DanceNotation$Several") ∈ lw_all) (hb : ∃ fs, h b = some (.inr (nCi κ, fs))) (kk : Ev g M d c k Q (pc + 3) ls (vz (if 6 ≤ κ then 1 else 0) :: st) h) : Ev g M d c k Q pc ls (.ref b :: st) h := by
  obtain ⟨fs, hb⟩ := hb
  match κ with
  | 0 => rw [if_neg (by omega)] at kk; exact ev_instNZ (i := 2) hG hd hw hb rfl rfl kk
  | 1 => rw [if_neg (by omega)] at kk; exact ev_instNZ (i := 2) hG hd hw hb rfl rfl kk
  | 2 => rw [if_neg (by omega)] at kk; exact ev_instNZ (i := 1) hG hd hw hb rfl rfl kk
  | 3 => rw [if_neg (by omega)] at kk; exact ev_instNZ (i := 0) hG hd hw hb rfl rfl kk
  | 4 => rw [if_neg (by omega)] at kk; exact ev_instNZ (i := 3) hG hd hw hb rfl rfl kk
  | 5 => rw [if_neg (by omega)] at kk; exact ev_instNZ (i := 4) hG hd hw hb rfl rfl kk
  | κ + 6 => rw [if_pos (by omega)] at kk; exact ev_instYZ hd hw hb rfl rfl kk
theorem ev_instRep {idx b κ : Nat} (hG : GKx g) (hd : decode M.2.1 pc = .ok (.instanceof idx, 3)) (hw : (Jvm.Cond.classLink M.1.cls idx "DanceNotation$Repeat") ∈ lw_all) (hb : ∃ fs, h b = some (.inr (nCi κ, fs))) (kk : Ev g M d c k Q (pc + 3) ls (vz (if κ = 3 then 1 else 0) :: st) h) : Ev g M d c k Q pc ls (.ref b :: st) h := by
  obtain ⟨fs, hb⟩ := hb
  match κ with
  | 0 => rw [if_neg (by omega)] at kk; exact ev_instNZ (i := 6) hG hd hw hb rfl rfl kk
  | 1 => rw [if_neg (by omega)] at kk; exact ev_instNZ (i := 6) hG hd hw hb rfl rfl kk
  | 2 => rw [if_neg (by omega)] at kk; exact ev_instNZ (i := 5) hG hd hw hb rfl rfl kk
  | 3 => rw [if_pos (by omega)] at kk; exact ev_instYZ hd hw hb rfl rfl kk
  | 4 => rw [if_neg (by omega)] at kk; exact ev_instNZ (i := 7) hG hd hw hb rfl rfl kk
  | 5 => rw [if_neg (by omega)] at kk; exact ev_instNZ (i := 8) hG hd hw hb rfl rfl kk
  | κ + 6 => rw [if_neg (by omega)] at kk; exact ev_instNZ (i := 9) hG hd hw hb rfl rfl kk
end
end O0S

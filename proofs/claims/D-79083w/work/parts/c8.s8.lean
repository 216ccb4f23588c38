/-! THE COMPONENT: dances in the heap; new Dance (printed by gen) -/
section S8S
variable {g : GB} {M : MI} {d c k : Nat} {h : HM}
/-- a dance: its formations' rows lie behind the row of rows -/
def DnA (g : GB) (h : HM) (a st fo : Nat) (co ro : Int) (A : Nat → Int) (B : Nat → Nat → Int) (pv sv : Value) : Prop :=
  h a = some (.inr (1, [vz co, vz ro, .ref st, .ref fo, pv, sv])) ∧ h st = some (.inl (0, (8, .inl (fun j => zI (A j))))) ∧ h fo = some (.inl (6, (4, .inr (.inr (.inr (.inr (fun j => if j < 4 then some (fo + 1 + j) else none))))))) ∧ (∀ f : Nat, f < 4 → h (fo + 1 + f) = some (.inl (0, (8, .inl (fun j => zI (B f j)))))) ∧ gB g ≤ a ∧ gB g ≤ st ∧ gB g ≤ fo ∧ ∀ f : Nat, f < 4 → st ≠ fo + 1 + f
def dnS (a st fo : Nat) : List Nat := [a, st, fo, fo + 1, fo + 2, fo + 3, fo + 4]
theorem mem_dnF {a st fo f : Nat} (hf : f < 4) : fo + 1 + f ∈ dnS a st fo := by
  have : f = 0 ∨ f = 1 ∨ f = 2 ∨ f = 3 := by omega
  unfold dnS
  rcases this with rfl | rfl | rfl | rfl <;> simp
theorem dnS_mem {a st fo x : Nat} (h : x ∈ dnS a st fo) : x = a ∨ x = st ∨ ∃ j, j ≤ 4 ∧ x = fo + j := by
  unfold dnS at h
  simp only [List.mem_cons, List.not_mem_nil, or_false] at h
  rcases h with h | h | h | h | h | h | h
  · exact Or.inl h
  · exact Or.inr (Or.inl h)
  · exact Or.inr (Or.inr ⟨0, by omega, h⟩)
  · exact Or.inr (Or.inr ⟨1, by omega, h⟩)
  · exact Or.inr (Or.inr ⟨2, by omega, h⟩)
  · exact Or.inr (Or.inr ⟨3, by omega, h⟩)
  · exact Or.inr (Or.inr ⟨4, by omega, h⟩)
section
variable {h h2 : HM} {a st fo : Nat} {co ro : Int} {A : Nat → Int} {B : Nat → Nat → Int} {pv sv : Value}
theorem DnA.row {x w : Nat} {v : Int} (K : DnA g h a st fo co ro A B pv sv) (hx : x < 4) (hn : h2 (fo + 1 + x) = some (.inl (0, (8, .inl (fun j => zI ((uz (B x) w v) j)))))) (hq : ∀ q : Nat, q ≠ fo + 1 + x → h2 q = h q) : DnA g h2 a st fo co ro A (fun f => if f = x then uz (B x) w v else B f) pv sv := by
  obtain ⟨k1, k2, k3, k4, k5, k6, k7, k8⟩ := K
  have kx := k4 x hx
  refine ⟨(hq _ (ne_of k1 kx (by simp))).trans k1, (hq _ (k8 x hx)).trans k2, (hq _ (ne_of k3 kx (by simp))).trans k3, fun f hf => ?_, k5, k6, k7, k8⟩
  by_cases c : f = x
  · subst c; dsimp only; rw [if_pos rfl]; exact hn
  · dsimp only; rw [if_neg c, hq _ (by omega)]; exact k4 f hf
theorem DnA.start {A2 : Nat → Int} (K : DnA g h a st fo co ro A B pv sv) (hn : h2 st = some (.inl (0, (8, .inl (fun j => zI (A2 j)))))) (hq : ∀ q : Nat, q ≠ st → h2 q = h q) : DnA g h2 a st fo co ro A2 B pv sv := by
  obtain ⟨k1, k2, k3, k4, k5, k6, k7, k8⟩ := K
  exact ⟨(hq _ (ne_of k1 k2 (by simp))).trans k1, hn, (hq _ (ne_of k3 k2 (by simp))).trans k3, fun f hf => (hq _ (k8 f hf).symm).trans (k4 f hf), k5, k6, k7, k8⟩
theorem DnA.top {co2 ro2 : Int} {pv2 sv2 : Value} (K : DnA g h a st fo co ro A B pv sv) (hn : h2 a = some (.inr (1, [vz co2, vz ro2, .ref st, .ref fo, pv2, sv2]))) (hq : ∀ q : Nat, q ≠ a → h2 q = h q) : DnA g h2 a st fo co2 ro2 A B pv2 sv2 := by
  obtain ⟨k1, k2, k3, k4, k5, k6, k7, k8⟩ := K
  exact ⟨hn, (hq _ (ne_of k2 k1 (by simp))).trans k2, (hq _ (ne_of k3 k1 (by simp))).trans k3, fun f hf => (hq _ (ne_of (k4 f hf) k1 (by simp))).trans (k4 f hf), k5, k6, k7, k8⟩
theorem DnA.fr {S : List Nat} (K : DnA g h a st fo co ro A B pv sv) (F : Fr g h h2 S) (hS : ∀ x ∈ S, x ∉ dnS a st fo) : DnA g h2 a st fo co ro A B pv sv := by
  obtain ⟨k1, k2, k3, k4, k5, k6, k7, k8⟩ := K
  exact ⟨F.keep k1 (fun q => hS _ q (by simp [dnS])), F.keep k2 (fun q => hS _ q (by simp [dnS])), F.keep k3 (fun q => hS _ q (by simp [dnS])), fun f hf => F.keep (k4 f hf) (fun q => hS _ q (mem_dnF hf)), k5, k6, k7, k8⟩
end
/-- the piece and its score -/
def dnV (g : GB) (I : HM) (x : Option (List Nd)) (pv sv : Value) : Prop := match x with
  | none => pv = .null ∧ sv = .null
  | some l => ∃ p s ss cu ru : Nat, pv = .ref p ∧ sv = .ref s ∧ NodeAt I 81 p l ∧ ScP g I s (mean l) ss cu ru
/-- the dance D at a -/
def DnC (g : GB) (I h : HM) (a st fo : Nat) (D : Dn) : Prop := ∃ (A : Nat → Int) (B : Nat → Nat → Int) (pv sv : Value), DnA g h a st fo D.1.1 D.1.2 A B pv sv ∧ (∀ e : Nat, e < 8 → A e = D.2.1 e) ∧ (∀ f e : Nat, f < 4 → e < 8 → B f e = D.2.2.1 f e) ∧ dnV g I D.2.2.2 pv sv
def dn0 (co ro : Nat) : Dn := ((co, ro), fun _ => -1, fun _ _ => -1, none)
theorem dnV.sub {I J : HM} {x : Option (List Nd)} {pv sv : Value} (H : dnV g I x pv sv) (hS : Sub I J) : dnV g J x pv sv := by
  cases x with
  | none => exact H
  | some l =>
    obtain ⟨p, s, ss, cu, ru, e1, e2, e3, e4⟩ := H
    exact ⟨p, s, ss, cu, ru, e1, e2, e3.sub hS, e4.sub hS⟩
theorem DnC.fr {I h h2 : HM} {a st fo : Nat} {D : Dn} {S : List Nat} (K : DnC g I h a st fo D) (F : Fr g h h2 S) (hS : ∀ x ∈ S, x ∉ dnS a st fo) : DnC g I h2 a st fo D := by
  obtain ⟨A, B, pv, sv, k1, k2, k3, k4⟩ := K
  exact ⟨A, B, pv, sv, k1.fr F hS, k2, k3, k4⟩
theorem DnC.sub {I J h : HM} {a st fo : Nat} {D : Dn} (K : DnC g I h a st fo D) (hS : Sub I J) : DnC g J h a st fo D := by
  obtain ⟨A, B, pv, sv, k1, k2, k3, k4⟩ := K
  exact ⟨A, B, pv, sv, k1, k2, k3, k4.sub hS⟩
set_option maxRecDepth 100000 in
set_option maxHeartbeats 4000000 in
theorem k_initX2 {a : Nat} {co ro : Nat} (hG : GKx g) (ha : h a = some (.inr (1, [vz 0, vz 0, .null, .null, .null, .null]))) (hB : gB g ≤ a) : Kc g mX2_init 1 (6) (44) [.ref a, vz ((co : Nat) : Int), vz ((ro : Nat) : Int)] h (rR (fun v h' => v = none ∧ ∃ st fo : Nat, (∀ I : HM, DnC g I h' a st fo (dn0 co ro)) ∧ Fr g h h' [a] ∧ h st = none ∧ ∀ j : Nat, j ≤ 4 → h (fo + j) = none)) := by
  refine Kc.of (ls := [some (.ref a), some (vz ((co : Nat) : Int)), some (vz ((ro : Nat) : Int)), none, none, none, none, none]) (by decide +kernel) (Nat.le_of_ble_eq_true rfl) rfl ?_
  refine ev_aload_n dX2_init_0 rfl ?_
  refine ev_objInit dX2_init_1 q190 q183 q184 (by omega) rfl ?_
  refine ev_aload_n dX2_init_4 rfl ?_
  refine ev_bipushZ dX2_init_5 rfl ?_
  refine ev_newA_int (N := 8) (c' := 5) (k' := 36) dX2_init_7 (by omega) (by omega) (by omega) (by omega) (by omega) (fun q1 hp_2 e3 B4 Hq1_5 f6 => ?_)
  have ha_7 := (f6 _ (ne_no ha e3)).trans ha
  have z8 := ((Fr.refl (g := g) _ [a])).fresh e3
  have F9 := ((Fr.refl (g := g) _ [a])).alloc (Or.inr ⟨_, Hq1_5, Nat.le_of_ble_eq_true rfl⟩) f6 e3
  refine ev_putC [vz 0, vz 0, .ref q1, .null, .null, .null] dX2_init_9 gf_X2_9_X2 ha_7 hB (Or.inr ⟨rfl, rfl⟩) rfl rfl (Nat.le_of_ble_eq_true rfl) rfl (fun hp_10 ha_11 f12 => ?_)
  have Hq1_13 := (f12 _ ((ne_no ha e3)).symm).trans Hq1_5
  have F14 := (F9).write (Or.inl ⟨_, ha_11⟩) f12 hB (by simp)
  refine ev_aload_n dX2_init_12 rfl ?_
  refine ev_iconstZ dX2_init_13 ?_
  refine ev_bipushZ dX2_init_14 rfl ?_
  refine ev_multiY (ty := .int) (t := 6) (u := 0) (N := 4) (K := 8) (c' := 0) (k' := 0) hG dX2_init_16 (by rw [show "[" ++ (FieldType.array .int).toString = "[[I" by decide +kernel]; exact q191) q192 q228 rfl rfl (by decide) (by decide) (by decide) rfl (by omega) (by omega) (by omega) (by omega) (by omega) (by omega) (fun fo hB9 hf hfoB hfo hrow hold => ?_)
  have haB : hB9 a = _ := (hold a (by rw [ha_11]; exact fun q => by cases q)).trans ha_11
  have hsB : hB9 q1 = _ := (hold q1 (by rw [Hq1_13]; exact fun q => by cases q)).trans Hq1_13
  have FA9 := F14
  have zst := z8
  have zfo : ∀ j, j ≤ 4 → h (fo + j) = none := fun j hj => FA9.fresh (hf j hj)
  have hstB := B4
  have hne9 : ∀ f : Nat, f < 4 → q1 ≠ fo + 1 + f := fun f hf4 => ne_no Hq1_13 (by rw [Nat.add_assoc]; exact hf (1 + f) (by omega))
  obtain ⟨st, hst9⟩ : ∃ x, x = q1 := ⟨_, rfl⟩
  rw [← hst9] at haB hsB zst hstB hne9
  have FB9 := FA9.call (Fr.grow (g := g) (S := []) hold) nil_in
  clear hold
  refine ev_putC [vz 0, vz 0, .ref st, .ref fo, .null, .null] dX2_init_20 gf_X2_17_X2 haB hB (Or.inr ⟨rfl, rfl⟩) rfl rfl (Nat.le_of_ble_eq_true rfl) rfl (fun hp_b1 haB_b2 fb3 => ?_)
  have hsB_b4 := (fb3 _ (ne_of hsB haB (by simp))).trans hsB
  have hfo_b5 := (fb3 _ (ne_of hfo haB (by simp))).trans hfo
  have Fb6 := ((Fr.refl (g := g) hB9 [a])).write (Or.inl ⟨_, haB_b2⟩) fb3 hB (by simp)
  refine ev_aload_n dX2_init_23 rfl ?_
  refine ev_iload_n dX2_init_24 rfl ?_
  refine ev_putC [vz ((co : Nat) : Int), vz 0, .ref st, .ref fo, .null, .null] dX2_init_25 gf_X2_20_X2 haB_b2 hB (Or.inr ⟨rfl, rfl⟩) rfl rfl (Nat.le_of_ble_eq_true rfl) rfl (fun hp_b7 haB_b8 fb9 => ?_)
  have hsB_b10 := (fb9 _ (ne_of hsB_b4 haB_b2 (by simp))).trans hsB_b4
  have hfo_b11 := (fb9 _ (ne_of hfo_b5 haB_b2 (by simp))).trans hfo_b5
  have Fb12 := (Fb6).write (Or.inl ⟨_, haB_b8⟩) fb9 hB (by simp)
  refine ev_aload_n dX2_init_28 rfl ?_
  refine ev_iload_n dX2_init_29 rfl ?_
  refine ev_putC [vz ((co : Nat) : Int), vz ((ro : Nat) : Int), .ref st, .ref fo, .null, .null] dX2_init_30 gf_X2_24_X2 haB_b8 hB (Or.inr ⟨rfl, rfl⟩) rfl rfl (Nat.le_of_ble_eq_true rfl) rfl (fun hp_b13 haB_b14 fb15 => ?_)
  have hsB_b16 := (fb15 _ (ne_of hsB_b10 haB_b8 (by simp))).trans hsB_b10
  have hfo_b17 := (fb15 _ (ne_of hfo_b11 haB_b8 (by simp))).trans hfo_b11
  have Fb18 := (Fb12).write (Or.inl ⟨_, haB_b14⟩) fb15 hB (by simp)
  refine ev_iconstZ dX2_init_33 ?_
  refine ev_istore_n dX2_init_34 (by decide) rfl ?_
  dsimp only [List.set]
  have FC9 := Fb18
  have K0 : DnA g hp_b13 a st fo co ro (fun _ => 0) (fun _ _ => 0) .null .null := ⟨haB_b14, hsB_b16, hfo_b17, fun f hf4 => FC9.keep (hrow f hf4) (fun q => by rw [List.mem_singleton] at q; exact ne_of (hrow f hf4) haB (by simp) q), hB, hstB, hfoB, hne9⟩
  generalize hp_b13 = hC at K0 FC9 ⊢
  refine ev_for (st := []) 8 (fun i h1 => ∃ A B, DnA g h1 a st fo co ro A B .null .null ∧ (∀ e : Nat, e < i → A e = -1) ∧ (∀ f e : Nat, f < 4 → e < i → B f e = -1) ∧ Fr g hC h1 (dnS a st fo)) (fun i => [some (.ref a), some (vz ((co : Nat) : Int)), some (vz ((ro : Nat) : Int)), some (vz ((i : Nat) : Int)), none, none, none, none]) 0 (Nat.zero_le _) ⟨_, _, K0, fun e he => by omega, fun f e hf4 he => by omega, Fr.refl _ _⟩ ⟨rfl, rfl, rfl, rfl, trivial⟩ (fun i h1 _ hi hP1 hN => ?_) (fun h1 hP1 => ?_)
  · obtain ⟨A1, B1, K1, hA1, hB1, F1⟩ := hP1
    obtain ⟨k1, k2, k3, k4, k5, k6, k7, k8⟩ := id K1
    refine ev_iload_n dX2_init_35 rfl ?_
    refine ev_bipushZ dX2_init_36 rfl ?_
    refine ev_icmp_geZ (tgt := 93) dX2_init_38 (by decide) (by omega) (by omega) (fun c38 => by omega) (fun c38 => ?_)
    refine ev_aload_n dX2_init_41 rfl ?_
    refine ev_getf dX2_init_42 gf_X2_9_X2 k1 rfl ?_
    refine ev_iload_n dX2_init_45 rfl ?_
    refine ev_iconstZ dX2_init_46 ?_
    refine ev_iastY dX2_init_47 k2 k6 (by omega) trivial (fun hp_1 k2_2 f3 => ?_)
    have k1_4 := (f3 _ (ne_of k1 k2 (by simp))).trans k1
    have k3_5 := (f3 _ (ne_of k3 k2 (by simp))).trans k3
    have F6 := (F1).write (Or.inr ⟨_, k2_2, Nat.le_of_ble_eq_true rfl⟩) f3 k6 (by simp [dnS])
    refine ev_aload_n dX2_init_48 rfl ?_
    refine ev_getf dX2_init_49 gf_X2_17_X2 k1_4 rfl ?_
    refine ev_astore dX2_init_52 (by decide) rfl ?_
    dsimp only [List.set]
    refine ev_aload dX2_init_54 rfl ?_
    refine ev_alenZ dX2_init_56 k3_5 rfl ?_
    refine ev_istore dX2_init_57 (by decide) rfl ?_
    dsimp only [List.set]
    refine ev_iconstZ dX2_init_59 ?_
    refine ev_istore dX2_init_60 (by decide) rfl ?_
    dsimp only [List.set]
    have K2 := K1.start k2_2 f3
    have F2 := F1.write (Or.inr ⟨_, k2_2, Nat.le_of_ble_eq_true rfl⟩) f3 k6 (by simp [dnS])
    refine ev_for (st := []) 4 (fun j h2 => ∃ A B, DnA g h2 a st fo co ro A B .null .null ∧ (∀ e : Nat, e < i + 1 → A e = -1) ∧ (∀ f e : Nat, f < 4 → e < i → B f e = -1) ∧ (∀ f : Nat, f < j → B f i = -1) ∧ Fr g hC h2 (dnS a st fo)) (fun j => [some (.ref a), some (vz ((co : Nat) : Int)), some (vz ((ro : Nat) : Int)), some (vz ((i : Nat) : Int)), some (.ref fo), some (vz 4), some (vz ((j : Nat) : Int)), none]) 0 (Nat.zero_le _) ⟨_, _, K2, fun e he => ?_, hB1, fun f hf4 => by omega, F2⟩ ⟨rfl, rfl, rfl, rfl, rfl, rfl, rfl, trivial⟩ (fun j h2 _ hj hP2 hK => ?_) (fun h2 hP2 => ?_)
    · rw [Int.toNat_natCast]; unfold uz
      by_cases q : e = i
      · rw [if_pos q]
      · rw [if_neg q]; exact hA1 e (by omega)
    · obtain ⟨A1, B1, K1, hA1, hB1, hB2, F1⟩ := hP2
      obtain ⟨k1, k2, k3, k4, k5, k6, k7, k8⟩ := id K1
      refine ev_iload dX2_init_62 rfl ?_
      refine ev_iload dX2_init_64 rfl ?_
      refine ev_icmp_geZ (tgt := 87) dX2_init_66 (by decide) (by omega) (by omega) (fun c66 => by omega) (fun c66 => ?_)
      refine ev_aload dX2_init_69 rfl ?_
      refine ev_iload dX2_init_71 rfl ?_
      refine ev_aaldY (v := .ref (fo + 1 + j)) dX2_init_73 k3 rfl rfl (by omega) (by rw [Int.toNat_natCast, if_pos hj]; rfl) ?_
      refine ev_astore dX2_init_74 (by decide) rfl ?_
      dsimp only [List.set]
      refine ev_aload dX2_init_76 rfl ?_
      refine ev_iload_n dX2_init_78 rfl ?_
      refine ev_iconstZ dX2_init_79 ?_
      refine ev_iastY dX2_init_80 (k4 j hj) (by omega) (by omega) trivial (fun h3 hn3 fr3 => ?_)
      rw [Int.toNat_natCast] at hn3
      refine ev_iincZ dX2_init_81 rfl (by decide) rfl ?_
      dsimp only [List.set]
      refine ev_goto (tgt := 62) dX2_init_84 (by decide) ?_
      refine hK _ _ (by repeat' first | exact rfl | exact trivial | exact vz_eq (by omega) | refine And.intro ?_ ?_) ⟨_, _, K1.row hj hn3 fr3, hA1, fun f e hf4 he => ?_, fun f hf4 => ?_, F1.write (Or.inr ⟨_, hn3, Nat.le_of_ble_eq_true rfl⟩) fr3 (by omega) (mem_dnF hj)⟩
      · split
        · rename_i e9; subst e9; unfold uz; rw [if_neg (by omega)]; exact hB1 f e hf4 he
        · exact hB1 f e hf4 he
      · by_cases e9 : f = j
        · rw [if_pos e9]; unfold uz; rw [if_pos rfl]
        · rw [if_neg e9]; exact hB2 f (by omega)
    · obtain ⟨A1, B1, K1, hA1, hB1, hB2, F1⟩ := hP2
      obtain ⟨k1, k2, k3, k4, k5, k6, k7, k8⟩ := id K1
      refine ev_iload dX2_init_62 rfl ?_
      refine ev_iload dX2_init_64 rfl ?_
      refine ev_icmp_geZ (tgt := 87) dX2_init_66 (by decide) (by omega) (by omega) (fun c66 => ?_) (fun c66 => by omega)
      refine ev_iincZ dX2_init_87 rfl (by decide) rfl ?_
      dsimp only [List.set]
      refine ev_goto (tgt := 35) dX2_init_90 (by decide) ?_
      refine hN _ _ (by repeat' first | exact rfl | exact trivial | exact vz_eq (by omega) | refine And.intro ?_ ?_) ⟨_, _, K1, hA1, fun f e hf4 he => ?_, F1⟩
      by_cases q : e = i
      · rw [q]; exact hB2 f hf4
      · exact hB1 f e hf4 (by omega)
  · obtain ⟨A1, B1, K1, hA1, hB1, F1⟩ := hP1
    obtain ⟨k1, k2, k3, k4, k5, k6, k7, k8⟩ := id K1
    refine ev_iload_n dX2_init_35 rfl ?_
    refine ev_bipushZ dX2_init_36 rfl ?_
    refine ev_icmp_geZ (tgt := 93) dX2_init_38 (by decide) (by omega) (by omega) (fun c38 => ?_) (fun c38 => by omega)
    refine ev_return dX2_init_93 rfl ?_
    refine ⟨_, rfl, rfl, st, fo, fun I => ⟨A1, B1, .null, .null, K1, hA1, fun f e hf4 he => hB1 f e hf4 he, rfl, rfl⟩, (FB9.call FC9 (fun x hx => Or.inl hx)).call F1 (fun x hx => ?_), zst, zfo⟩
    rcases dnS_mem hx with r | r | ⟨j, hj, r⟩
    · rw [r]; exact Or.inl List.mem_cons_self
    · rw [r]; exact Or.inr (Or.inl zst)
    · rw [r]; exact Or.inr (Or.inl (zfo j hj))
end S8S

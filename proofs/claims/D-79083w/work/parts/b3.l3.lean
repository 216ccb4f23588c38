/-! THE COMPONENT: scores in the heap; Phrase.perform, Cue.perform (printed by gen) -/
section L3S
variable {g : GB} {M : MI} {d c k : Nat} {h : HM}
/-- a score: its rows of steps lie behind the row of rows -/
def ScA (g : GB) (h : HM) (sc n ss cu ru : Nat) (A : Nat → Nat → Int) (B : Nat → Int) : Prop :=
  h sc = some (.inr (4, [vz ((n : Nat) : Int), .ref ss, .ref cu, .ref ru])) ∧ h ss = some (.inl (7, (8, .inr (.inr (.inr (.inr (fun j => if j < 8 then some (ss + 1 + j) else none))))))) ∧ (∀ e : Nat, e < 8 → h (ss + 1 + e) = some (.inl (3, (n, .inl (fun j => zI (A e j)))))) ∧ h cu = some (.inl (0, ((n + 1), .inl (fun j => zI (B j))))) ∧ h ru = some (.inl (10, (4, .inr (.inr (.inr (.inr (fun j => if j < 4 then some (g.2.2.2.2 (56 + j)) else none))))))) ∧ gB g ≤ cu ∧ gB g ≤ ss
def ScH (g : GB) (h : HM) (sc n ss cu ru : Nat) (S : Nat → Nat → Int) (C : Nat → Int) : Prop := ∃ (A : Nat → Nat → Int) (B : Nat → Int), ScA g h sc n ss cu ru A B ∧ (∀ e k : Nat, e < 8 → k < n → A e k = S e k) ∧ ∀ k : Nat, k ≤ n → B k = C k
def scS (ss cu : Nat) : List Nat := [cu, ss + 1, ss + 2, ss + 3, ss + 4, ss + 5, ss + 6, ss + 7, ss + 8]
theorem mem_scS {ss cu e : Nat} (he : e < 8) : ss + 1 + e ∈ scS ss cu := by
  have : e = 0 ∨ e = 1 ∨ e = 2 ∨ e = 3 ∨ e = 4 ∨ e = 5 ∨ e = 6 ∨ e = 7 := by omega
  unfold scS
  rcases this with rfl | rfl | rfl | rfl | rfl | rfl | rfl | rfl <;> simp
theorem scS_mem {ss cu x : Nat} (h : x ∈ scS ss cu) : x = cu ∨ ∃ e, e < 8 ∧ x = ss + 1 + e := by
  unfold scS at h
  simp only [List.mem_cons, List.not_mem_nil, or_false] at h
  rcases h with h | h | h | h | h | h | h | h | h
  · exact Or.inl h
  · exact Or.inr ⟨0, by omega, h⟩
  · exact Or.inr ⟨1, by omega, h⟩
  · exact Or.inr ⟨2, by omega, h⟩
  · exact Or.inr ⟨3, by omega, h⟩
  · exact Or.inr ⟨4, by omega, h⟩
  · exact Or.inr ⟨5, by omega, h⟩
  · exact Or.inr ⟨6, by omega, h⟩
  · exact Or.inr ⟨7, by omega, h⟩
/-- none of its rows is a cell of I -/
def scI (I : HM) (ss cu : Nat) : Prop := I cu = none ∧ ∀ e : Nat, e < 8 → I (ss + 1 + e) = none
theorem scI.sub {I h h1 : HM} {ss cu : Nat} (hS : scI I ss cu) (hI : Sub I h) (F : Fr g h h1 (scS ss cu)) : Sub I h1 := hI.fr F (fun x hx => by
  rcases scS_mem hx with rfl | ⟨e, he, rfl⟩
  · exact Or.inl hS.1
  · exact Or.inl (hS.2 e he))
theorem ScA.row {h h2 : HM} {sc n ss cu ru x w : Nat} {v : Int} {A : Nat → Nat → Int} {B : Nat → Int} (K : ScA g h sc n ss cu ru A B) (hx : x < 8) (hn : h2 (ss + 1 + x) = some (.inl (3, (n, .inl (fun j => zI ((uz (A x) w v) j)))))) (hq : ∀ q : Nat, q ≠ ss + 1 + x → h2 q = h q) : ScA g h2 sc n ss cu ru (fun e => if e = x then uz (A x) w v else A e) B := by
  obtain ⟨k1, k2, k3, k4, k5, k6, k7⟩ := K
  have kx := k3 x hx
  refine ⟨(hq _ (ne_of k1 kx (by simp))).trans k1, (hq _ (ne_of k2 kx (by simp))).trans k2, fun e he => ?_, (hq _ (ne_of k4 kx (by simp))).trans k4, (hq _ (ne_of k5 kx (by simp))).trans k5, k6, k7⟩
  by_cases c : e = x
  · subst c; dsimp only; rw [if_pos rfl]; exact hn
  · dsimp only; rw [if_neg c, hq _ (by omega)]; exact k3 e he
theorem ScA.cue {h h2 : HM} {sc n ss cu ru : Nat} {A : Nat → Nat → Int} {B B2 : Nat → Int} (K : ScA g h sc n ss cu ru A B) (hn : h2 cu = some (.inl (0, ((n + 1), .inl (fun j => zI (B2 j)))))) (hq : ∀ q : Nat, q ≠ cu → h2 q = h q) : ScA g h2 sc n ss cu ru A B2 := by
  obtain ⟨k1, k2, k3, k4, k5, k6, k7⟩ := K
  exact ⟨(hq _ (ne_of k1 k4 (by simp))).trans k1, (hq _ (ne_of k2 k4 (by simp))).trans k2, fun e he => (hq _ (ne_of (k3 e he) k4 (by simp))).trans (k3 e he), hn, (hq _ (ne_of k5 k4 (by simp))).trans k5, k6, k7⟩
/-- where a count of a part lies, from a count on, backwards or not -/
def bkI (b : Bool) (len q : Nat) : Nat := if b then len - 1 - q else q
/-- what a part does to a score -/
def pfS (P : Pt) (fm r : Nat) (b : Bool) (S : Nat → Nat → Int) : Nat → Nat → Int := fun e k => if fm ≤ k ∧ k < fm + P.1.1 ∧ P.1.2.1.testBit e = true then ((sgN (ruN r (P.2.1 e (bkI b P.1.1 (k - fm)))) : Nat) : Int) else S e k
def pfC (P : Pt) (fm : Nat) (b : Bool) (C : Nat → Int) : Nat → Int := fun k => if fm ≤ k ∧ k ≤ fm + P.1.1 then C k + ((P.2.2 (if b then P.1.1 - (k - fm) else k - fm) : Nat) : Int) else C k
/-- how a node at q of the kind κ performs itself: as the part P -/
def Pf (g : GB) (I : HM) (D κ q : Nat) (P : Pt) : Prop := ∀ (h : HM) (sc n ss cu ru : Nat) (S : Nat → Nat → Int) (C : Nat → Int) (fm r : Nat) (b : Bool), Sub I h → scI I ss cu → ScH g h sc n ss cu ru S C → r < 4 → n ≤ 99 → fm + P.1.1 ≤ n → (∀ e : Nat, e < 8 → P.1.2.1.testBit e = true → ∀ k : Nat, fm ≤ k → k < fm + P.1.1 → S e k = 46) → Kc g (fam_perform κ) D 0 0 [.ref q, .ref sc, vz ((fm : Nat) : Int), vz ((r : Nat) : Int), vz (bI b)] h (rR (fun v h' => v = none ∧ ScH g h' sc n ss cu ru (pfS P fm r b S) (pfC P fm b C) ∧ Fr g h h' (scS ss cu)))
theorem pfC0 (fm : Nat) (b : Bool) (C : Nat → Int) (f : Nat → Nat → Nat) (hf : True) : pfC ((0, 0, 1, 1), f, fun k => if k = 0 then 1 else 0) fm b C = fun k => if k = fm then C k + 1 else C k := by
  funext k
  unfold pfC
  dsimp only
  by_cases q : k = fm
  · subst q; rw [if_pos (by omega), if_pos rfl]; cases b <;> simp
  · rw [if_neg (by omega), if_neg q]
set_option maxRecDepth 100000 in
set_option maxHeartbeats 4000000 in
theorem k_pfC {a sc n ss cu ru fm : Nat} {r bb : Int} {b : Bool} {S : Nat → Nat → Int} {C : Nat → Int} (hS : ScH g h sc n ss cu ru S C) (hn : n ≤ 99) (hf : fm ≤ n) : Kc g mX12_perform d (0) (0) [.ref a, .ref sc, vz ((fm : Nat) : Int), vz r, vz bb] h (rR (fun v h' => v = none ∧ ScH g h' sc n ss cu ru (S) (pfC ((0, 0, 1, 1), fun _ _ => 0, fun k => if k = 0 then 1 else 0) fm b C) ∧ Fr g h h' (scS ss cu))) := by
  refine Kc.of (ls := [some (.ref a), some (.ref sc), some (vz ((fm : Nat) : Int)), some (vz r), some (vz bb)]) (by decide +kernel) (Nat.le_of_ble_eq_true rfl) rfl ?_
  obtain ⟨A, B, K, hA, hB⟩ := hS
  obtain ⟨k1, k2, k3, k4, k5, k6, k7⟩ := id K
  refine ev_aload_n dX12_perform_0 rfl ?_
  refine ev_getf dX12_perform_1 gf_X12_7_X5 k1 rfl ?_
  refine ev_iload_n dX12_perform_4 rfl ?_
  refine ev_dup2 dX12_perform_5 rfl rfl ?_
  refine ev_ialdY dX12_perform_6 k4 (by omega) ?_
  refine ev_iconstZ dX12_perform_7 ?_
  refine ev_iaddZ dX12_perform_8 ?_
  refine ev_iastY dX12_perform_9 k4 k6 (by omega) trivial (fun hp_1 k4_2 f3 => ?_)
  have k1_4 := (f3 _ (ne_of k1 k4 (by simp))).trans k1
  have F5 := ((Fr.refl (g := g) _ (scS ss cu))).write (Or.inr ⟨_, k4_2, Nat.le_of_ble_eq_true rfl⟩) f3 k6 (by unfold scS; simp)
  refine ev_return dX12_perform_10 rfl ?_
  refine ⟨_, rfl, rfl, ⟨A, _, ScA.cue K k4_2 f3, hA, fun k hk => ?_⟩, F5⟩
  rw [pfC0 fm b C _ trivial]
  dsimp only
  rw [Int.toNat_natCast]
  unfold uz
  by_cases q : k = fm
  · rw [if_pos q, if_pos q, q, hB fm (by omega)]
  · rw [if_neg q, if_neg q, hB k hk]
/-- a phrase's steps after i dancers and j steps of the next one -/
def stg (off : Nat) (dl sl : List Nat) (i j e c : Nat) : Nat := if e = dl.getD i 0 ∧ off * i ≤ c ∧ c < off * i + j then sl.getD (c - off * i) 0 else lst off dl sl i e c
theorem stg_0 (off : Nat) (dl sl : List Nat) (i e c : Nat) : stg off dl sl i 0 e c = lst off dl sl i e c := by unfold stg; rw [if_neg (by omega)]
theorem stg_L (off : Nat) (dl sl : List Nat) (i e c : Nat) : stg off dl sl i sl.length e c = lst off dl sl (i + 1) e c := rfl
theorem stg_step {off : Nat} {dl sl : List Nat} {i j x u e c : Nat} (hx : dl.getD i 0 = x) (hu : sl.getD j 0 = u) : stg off dl sl i (j + 1) e c = if e = x ∧ c = off * i + j then u else stg off dl sl i j e c := by
  unfold stg
  rw [hx]
  by_cases h1 : e = x ∧ c = off * i + j
  · rw [if_pos h1, if_pos ⟨h1.1, by omega, by omega⟩, h1.2, show off * i + j - off * i = j by omega, hu]
  · rw [if_neg h1]
    by_cases h2 : e = x ∧ off * i ≤ c ∧ c < off * i + j
    · rw [if_pos ⟨h2.1, h2.2.1, by omega⟩, if_pos h2]
    · rw [if_neg h2, if_neg (fun q => h2 ⟨q.1, q.2.1, by have : ¬ c = off * i + j := fun r => h1 ⟨q.1, r⟩; omega⟩)]
theorem bkI_inv {b : Bool} {len c : Nat} (hc : c < len) : bkI b len (bkI b len c) = c ∧ bkI b len c < len := by
  unfold bkI
  cases b with
  | false => exact ⟨rfl, hc⟩
  | true => simp only [if_true]; omega
theorem orD_bit {ds : List Nat} {x : Nat} (h : x ∈ ds) : (orD ds).testBit x = true := by
  have up : ∀ (ds : List Nat) (z : Nat), z.testBit x = true → (ds.foldl (fun a y => a ||| 1 <<< y) z).testBit x = true := by
    intro ds
    induction ds with
    | nil => intro z hz; exact hz
    | cons y t ih => intro z hz; exact ih _ (by rw [Nat.testBit_or, hz]; rfl)
  have key : ∀ (ds : List Nat) (z : Nat), x ∈ ds → (ds.foldl (fun a y => a ||| 1 <<< y) z).testBit x = true := by
    intro ds
    induction ds with
    | nil => intro z hz; cases hz
    | cons y t ih =>
      intro z hz
      rcases List.mem_cons.mp hz with rfl | r
      · exact up t _ (by rw [Nat.testBit_or, Nat.testBit_shiftLeft]; simp)
      · exact ih _ r
  exact key ds 0 h
/-- a phrase's row of steps while it is performed -/
def stA (P : Pt) (fm r : Nat) (b : Bool) (S : Nat → Nat → Int) (off : Nat) (dl sl : List Nat) (i j : Nat) : Nat → Nat → Int := fun e k => if fm ≤ k ∧ k < fm + P.1.1 ∧ P.1.2.1.testBit e = true then ((sgN (ruN r (stg off dl sl i j e (bkI b P.1.1 (k - fm)))) : Nat) : Int) else S e k
theorem stA_step {P : Pt} {fm r : Nat} {b : Bool} {S : Nat → Nat → Int} {off : Nat} {dl sl : List Nat} {i j x u c e k : Nat} (hx : dl.getD i 0 = x) (hu : sl.getD j 0 = u) (hc : c = off * i + j) (hcl : c < P.1.1) (hbit : P.1.2.1.testBit x = true) : stA P fm r b S off dl sl i (j + 1) e k = if e = x then uz (stA P fm r b S off dl sl i j x) (fm + bkI b P.1.1 c) ((sgN (ruN r u) : Nat) : Int) k else stA P fm r b S off dl sl i j e k := by
  obtain ⟨i1, i2⟩ := bkI_inv (b := b) hcl
  unfold stA uz
  by_cases he : e = x
  · subst he
    rw [if_pos rfl]
    by_cases hk : k = fm + bkI b P.1.1 c
    · rw [if_pos hk, hk, if_pos ⟨by omega, by omega, hbit⟩, show fm + bkI b P.1.1 c - fm = bkI b P.1.1 c by omega, i1, stg_step hx hu, if_pos ⟨rfl, hc⟩]
    · rw [if_neg hk]
      dsimp only
      by_cases hr : fm ≤ k ∧ k < fm + P.1.1 ∧ P.1.2.1.testBit e = true
      · rw [if_pos hr, if_pos hr, stg_step hx hu, if_neg]
        rintro ⟨-, q⟩
        have : bkI b P.1.1 (bkI b P.1.1 (k - fm)) = k - fm := (bkI_inv (by omega)).1
        rw [q, ← hc] at this
        omega
      · rw [if_neg hr, if_neg hr]
  · rw [if_neg he]
    by_cases hr : fm ≤ k ∧ k < fm + P.1.1 ∧ P.1.2.1.testBit e = true
    · rw [if_pos hr, if_pos hr, stg_step hx hu, if_neg (fun q => he q.1)]
    · rw [if_neg hr, if_neg hr]
set_option maxRecDepth 100000 in
set_option maxHeartbeats 4000000 in
theorem k_pfP {a da st sv off sc n ss cu ru fm r : Nat} {b : Bool} {dl sl : List Nat} {D : Nat → Int} {I : HM} {S : Nat → Nat → Int} {C : Nat → Int} (hG : GKx g) (hI : Sub I h) (hS : scI I ss cu) (hIa : I a = some (.inr (9, [vz ((off : Nat) : Int), .ref da, .ref st]))) (hIda : I da = some (.inl (0, (dl.length, .inl (fun j => zI (D j)))))) (hD : ∀ j x : Nat, dl[j]? = some x → D j = (x : Int)) (hT : STh I st sv (sl.map sgN)) (hdl : ∀ x ∈ dl, x < 8) (hsl : ∀ u ∈ sl, u ≤ 4) (hm : 1 ≤ dl.length) (hl : dl.length < 1000000) (hK : ScH g h sc n ss cu ru S C) (hr : r < 4) (hn : n ≤ 99) (hf : fm + (sl.length + off * (dl.length - 1)) ≤ n) (hdot : ∀ e : Nat, e < 8 → (twl dl).2.testBit e = true → ∀ k : Nat, fm ≤ k → k < fm + (sl.length + off * (dl.length - 1)) → S e k = 46) (hd : 8 ≤ d) : Kc g mX13_perform d (0) (0) [.ref a, .ref sc, vz ((fm : Nat) : Int), vz ((r : Nat) : Int), vz (bI b)] h (rR (fun v h' => v = none ∧ ScH g h' sc n ss cu ru (pfS (((sl.length + off * (dl.length - 1), (twl dl).2, 1, 0), lst off dl sl dl.length, fun _ => 0) : Pt) fm r b S) (pfC (((sl.length + off * (dl.length - 1), (twl dl).2, 1, 0), lst off dl sl dl.length, fun _ => 0) : Pt) fm b C) ∧ Fr g h h' (scS ss cu))) := by
  refine Kc.of (ls := [some (.ref a), some (.ref sc), some (vz ((fm : Nat) : Int)), some (vz ((r : Nat) : Int)), some (vz (bI b)), none, none, none, none]) (by decide +kernel) (Nat.le_of_ble_eq_true rfl) rfl ?_
  obtain ⟨A0, B0, K0, hA0, hB0⟩ := hK
  have hI0 := hS.sub hI (Fr.refl (g := g) h (scS ss cu))
  have ha0 := hI0 _ _ hIa
  have hda0 := hI0 _ _ hIda
  have T0 := hT.sub hI0
  obtain ⟨A90, x90, y90, hst0, hsv0, -⟩ := id T0
  refine ev_iload_n dX13_perform_0 rfl ?_
  refine ev_aload_n dX13_perform_1 rfl ?_
  refine ev_callVE dX13_perform_2 cv_X13_46_X13 ce_X13_length ha0 rfl rfl rfl (k_lenP (d := 2) hG ha0 hda0 T0 hm (Nat.le_refl _)) (by omega) (Nat.le_of_ble_eq_true rfl) ?_
  rw [List.length_map]
  refine ev_iaddZ dX13_perform_5 ?_
  refine ev_iconstZ dX13_perform_6 ?_
  refine ev_isubZ dX13_perform_7 ?_
  refine ev_to (b := ((fm + (sl.length + off * (dl.length - 1)) : Nat) : Int) - 1) (by omega) ?_
  refine ev_istore dX13_perform_8 (by decide) rfl ?_
  dsimp only [List.set]
  refine ev_iconstZ dX13_perform_10 ?_
  refine ev_istore dX13_perform_11 (by decide) rfl ?_
  dsimp only [List.set]
  refine ev_for (st := []) dl.length (fun i h1 => ∃ A, ScA g h1 sc n ss cu ru A B0 ∧ (∀ e k : Nat, e < 8 → k < n → A e k = stA (((sl.length + off * (dl.length - 1), (twl dl).2, 1, 0), lst off dl sl dl.length, fun _ => 0) : Pt) fm r b S off dl sl i 0 e k) ∧ Fr g h h1 (scS ss cu)) (fun i => [some (.ref a), some (.ref sc), some (vz ((fm : Nat) : Int)), some (vz ((r : Nat) : Int)), some (vz (bI b)), some (vz (((fm + (sl.length + off * (dl.length - 1)) : Nat) : Int) - 1)), some (vz ((i : Nat) : Int)), none, none]) 0 (Nat.zero_le _) ⟨A0, K0, fun e k he hk => ?_, Fr.refl _ _⟩ ⟨rfl, rfl, rfl, rfl, rfl, rfl, rfl, trivial⟩ (fun i h1 _ hi hP1 hN => ?_) (fun h1 hP1 => ?_)
  · rw [hA0 e k he hk]
    unfold stA
    by_cases q : fm ≤ k ∧ k < fm + (sl.length + off * (dl.length - 1)) ∧ (twl dl).2.testBit e = true
    · rw [if_pos q, stg_0]
      show S e k = ((sgN (ruN r 0) : Nat) : Int)
      rw [ruN_0, hdot e he q.2.2 k q.1 q.2.1]; rfl
    · rw [if_neg q]
  · obtain ⟨A1, K1, hA1, F1⟩ := hP1
    obtain ⟨k1, k2, k3, k4, k5, k6, k7⟩ := id K1
    have hI1 := hS.sub hI F1
    have ha1 := hI1 _ _ hIa
    have hda1 := hI1 _ _ hIda
    have T1 := hT.sub hI1
    obtain ⟨A91, x91, y91, hst1, hsv1, -⟩ := id T1
    obtain ⟨x, hx⟩ : ∃ x, dl[i]? = some x := ⟨_, List.getElem?_eq_getElem hi⟩
    have hx8 := hdl x (List.mem_of_getElem? hx)
    have hgx : dl.getD i 0 = x := by rw [List.getD_eq_getElem?_getD, hx]; rfl
    have hDx : D ((i : Nat) : Int).toNat = ((x : Nat) : Int) := by rw [Int.toNat_natCast]; exact hD i x hx
    have hbit : (twl dl).2.testBit x = true := by rw [← orD_eq]; exact orD_bit (List.mem_of_getElem? hx)
    refine ev_iload dX13_perform_13 rfl ?_
    refine ev_aload_n dX13_perform_15 rfl ?_
    refine ev_getf dX13_perform_16 gf_X13_19_X13 ha1 rfl ?_
    refine ev_alenZ dX13_perform_19 hda1 rfl ?_
    refine ev_icmp_geZ (tgt := 112) dX13_perform_20 (by decide) (by omega) (by omega) (fun c20 => by omega) (fun c20 => ?_)
    refine ev_iconstZ dX13_perform_23 ?_
    refine ev_istore dX13_perform_24 (by decide) rfl ?_
    dsimp only [List.set]
    refine ev_for (st := []) sl.length (fun j h2 => ∃ A, ScA g h2 sc n ss cu ru A B0 ∧ (∀ e k : Nat, e < 8 → k < n → A e k = stA (((sl.length + off * (dl.length - 1), (twl dl).2, 1, 0), lst off dl sl dl.length, fun _ => 0) : Pt) fm r b S off dl sl i j e k) ∧ Fr g h h2 (scS ss cu)) (fun j => [some (.ref a), some (.ref sc), some (vz ((fm : Nat) : Int)), some (vz ((r : Nat) : Int)), some (vz (bI b)), some (vz (((fm + (sl.length + off * (dl.length - 1)) : Nat) : Int) - 1)), some (vz ((i : Nat) : Int)), some (vz ((j : Nat) : Int)), none]) 0 (Nat.zero_le _) ⟨A1, K1, hA1, F1⟩ ⟨rfl, rfl, rfl, rfl, rfl, rfl, rfl, rfl, trivial⟩ (fun j h2 _ hj hP2 hK => ?_) (fun h2 hP2 => ?_)
    · obtain ⟨A2, K2, hA2, F2⟩ := hP2
      obtain ⟨k1, k2, k3, k4, k5, k6, k7⟩ := id K2
      have hI2 := hS.sub hI F2
      have ha2 := hI2 _ _ hIa
      have hda2 := hI2 _ _ hIda
      have T2 := hT.sub hI2
      obtain ⟨A92, x92, y92, hst2, hsv2, -⟩ := id T2
      obtain ⟨u, hu⟩ : ∃ u, sl[j]? = some u := ⟨_, List.getElem?_eq_getElem hj⟩
      have hu4 := hsl u (List.mem_of_getElem? hu)
      have hgu : sl.getD j 0 = u := by rw [List.getD_eq_getElem?_getD, hu]; rfl
      obtain ⟨c, hc⟩ : ∃ c, c = off * i + j := ⟨_, rfl⟩
      have hcl : c < (sl.length + off * (dl.length - 1)) := by have : off * i ≤ off * (dl.length - 1) := Nat.mul_le_mul_left _ (by omega); omega
      obtain ⟨hbi1, hbi2⟩ := bkI_inv (b := b) hcl
      refine ev_iload dX13_perform_26 rfl ?_
      refine ev_aload_n dX13_perform_28 rfl ?_
      refine ev_getf dX13_perform_29 gf_X13_15_X13 ha2 rfl ?_
      refine ev_callVE dX13_perform_32 cv_X13_27_J7 ce_J7_length hst2 rfl rfl rfl (st_length T2 hG) (by omega) (Nat.le_of_ble_eq_true rfl) ?_
      rw [List.length_map]
      refine ev_icmp_geZ (tgt := 106) dX13_perform_35 (by decide) (by omega) (by omega) (fun c35 => by omega) (fun c35 => ?_)
      refine ev_aload_n dX13_perform_38 rfl ?_
      refine ev_getf dX13_perform_39 gf_X13_9_X13 ha2 rfl ?_
      refine ev_iload dX13_perform_42 rfl ?_
      refine ev_imulZ dX13_perform_44 ?_
      refine ev_iload dX13_perform_45 rfl ?_
      refine ev_iaddZ dX13_perform_47 ?_
      refine ev_to (b := ((c : Nat) : Int)) (by rw [hc, Int.natCast_add, Int.natCast_mul]) ?_
      refine ev_istore dX13_perform_48 (by decide) rfl ?_
      dsimp only [List.set]
      refine ev_aload_n dX13_perform_50 rfl ?_
      refine ev_getf dX13_perform_51 gf_X13_47_X5 k1 rfl ?_
      refine ev_aload_n dX13_perform_54 rfl ?_
      refine ev_getf dX13_perform_55 gf_X13_19_X13 ha2 rfl ?_
      refine ev_iload dX13_perform_58 rfl ?_
      refine ev_ialdY dX13_perform_60 hda2 (by omega) ?_
      rw [hDx]
      refine ev_aaldY (v := .ref (ss + 1 + x)) dX13_perform_61 k2 rfl rfl (by omega) (by rw [Int.toNat_natCast, if_pos hx8]; rfl) ?_
      refine ev_iload dX13_perform_62 rfl ?_
      refine ev_if_eqB (tgt := 75) dX13_perform_64 (by decide) (fun c64 => ?_) (fun c64 => ?_)
      · refine ev_iload_n dX13_perform_75 rfl ?_
        refine ev_iload dX13_perform_76 rfl ?_
        refine ev_iaddZ dX13_perform_78 ?_
        refine ev_to (b := ((fm + bkI b (sl.length + off * (dl.length - 1)) c : Nat) : Int)) (by rw [c64]; show ((fm : Nat) : Int) + ((c : Nat) : Int) = ((fm + c : Nat) : Int); omega) ?_
        refine ev_aload_n dX13_perform_79 rfl ?_
        refine ev_getf dX13_perform_80 gf_X13_52_X5 k1 rfl ?_
        refine ev_iload_n dX13_perform_83 rfl ?_
        refine ev_aaldY (v := .ref (g.2.2.2.2 (56 + r))) dX13_perform_84 k5 rfl rfl (by omega) (by rw [Int.toNat_natCast, if_pos hr]; rfl) ?_
        refine ev_aload_n dX13_perform_85 rfl ?_
        refine ev_getf dX13_perform_86 gf_X13_15_X13 ha2 rfl ?_
        refine ev_iload dX13_perform_89 rfl ?_
        refine ev_callVE dX13_perform_91 cv_X13_56_J7 ce_J7_charAt hst2 rfl rfl rfl (st_charAt (u := sgN u) T2 hG (by omega) (by rw [Int.toNat_natCast, List.getElem?_map, hu]; rfl)) (by omega) (Nat.le_of_ble_eq_true rfl) ?_
        refine ev_rule hG hr hu4 dX13_perform_94 q1222 (by omega) (Nat.le_of_ble_eq_true rfl) ?_
        refine ev_chstY dX13_perform_99 (k3 x hx8) (by omega) (by omega) (by have := sgN_lt (x := ruN r u); omega) (fun h3 hn3 fr3 => ?_)
        rw [Int.toNat_natCast] at hn3
        refine ev_iincZ dX13_perform_100 rfl (by decide) rfl ?_
        dsimp only [List.set]
        refine ev_goto (tgt := 26) dX13_perform_103 (by decide) ?_
        refine hK _ _ (by repeat' first | exact rfl | exact trivial | exact vz_eq (by omega) | refine And.intro ?_ ?_) ⟨_, ScA.row K2 hx8 hn3 fr3, fun e k he hk => ?_, F2.write (Or.inr ⟨_, hn3, Nat.le_of_ble_eq_true rfl⟩) fr3 (by omega) (mem_scS hx8)⟩
        rw [stA_step (x := x) (u := u) (c := c) hgx hgu hc hcl hbit]
        by_cases q : e = x
        · rw [if_pos q, if_pos q]
          unfold uz
          rw [hA2 x k hx8 hk]
        · rw [if_neg q, if_neg q]; exact hA2 e k he hk
      · refine ev_iload dX13_perform_67 rfl ?_
        refine ev_iload dX13_perform_69 rfl ?_
        refine ev_isubZ dX13_perform_71 ?_
        refine ev_to (b := ((fm + bkI b (sl.length + off * (dl.length - 1)) c : Nat) : Int)) (by rw [c64]; show _ = ((fm + ((sl.length + off * (dl.length - 1)) - 1 - c) : Nat) : Int); omega) ?_
        refine ev_goto (tgt := 79) dX13_perform_72 (by decide) ?_
        refine ev_aload_n dX13_perform_79 rfl ?_
        refine ev_getf dX13_perform_80 gf_X13_52_X5 k1 rfl ?_
        refine ev_iload_n dX13_perform_83 rfl ?_
        refine ev_aaldY (v := .ref (g.2.2.2.2 (56 + r))) dX13_perform_84 k5 rfl rfl (by omega) (by rw [Int.toNat_natCast, if_pos hr]; rfl) ?_
        refine ev_aload_n dX13_perform_85 rfl ?_
        refine ev_getf dX13_perform_86 gf_X13_15_X13 ha2 rfl ?_
        refine ev_iload dX13_perform_89 rfl ?_
        refine ev_callVE dX13_perform_91 cv_X13_56_J7 ce_J7_charAt hst2 rfl rfl rfl (st_charAt (u := sgN u) T2 hG (by omega) (by rw [Int.toNat_natCast, List.getElem?_map, hu]; rfl)) (by omega) (Nat.le_of_ble_eq_true rfl) ?_
        refine ev_rule hG hr hu4 dX13_perform_94 q1222 (by omega) (Nat.le_of_ble_eq_true rfl) ?_
        refine ev_chstY dX13_perform_99 (k3 x hx8) (by omega) (by omega) (by have := sgN_lt (x := ruN r u); omega) (fun h3 hn3 fr3 => ?_)
        rw [Int.toNat_natCast] at hn3
        refine ev_iincZ dX13_perform_100 rfl (by decide) rfl ?_
        dsimp only [List.set]
        refine ev_goto (tgt := 26) dX13_perform_103 (by decide) ?_
        refine hK _ _ (by repeat' first | exact rfl | exact trivial | exact vz_eq (by omega) | refine And.intro ?_ ?_) ⟨_, ScA.row K2 hx8 hn3 fr3, fun e k he hk => ?_, F2.write (Or.inr ⟨_, hn3, Nat.le_of_ble_eq_true rfl⟩) fr3 (by omega) (mem_scS hx8)⟩
        rw [stA_step (x := x) (u := u) (c := c) hgx hgu hc hcl hbit]
        by_cases q : e = x
        · rw [if_pos q, if_pos q]
          unfold uz
          rw [hA2 x k hx8 hk]
        · rw [if_neg q, if_neg q]; exact hA2 e k he hk
    · obtain ⟨A2, K2, hA2, F2⟩ := hP2
      obtain ⟨k1, k2, k3, k4, k5, k6, k7⟩ := id K2
      have hI2 := hS.sub hI F2
      have ha2 := hI2 _ _ hIa
      have hda2 := hI2 _ _ hIda
      have T2 := hT.sub hI2
      obtain ⟨A92, x92, y92, hst2, hsv2, -⟩ := id T2
      refine ev_iload dX13_perform_26 rfl ?_
      refine ev_aload_n dX13_perform_28 rfl ?_
      refine ev_getf dX13_perform_29 gf_X13_15_X13 ha2 rfl ?_
      refine ev_callVE dX13_perform_32 cv_X13_27_J7 ce_J7_length hst2 rfl rfl rfl (st_length T2 hG) (by omega) (Nat.le_of_ble_eq_true rfl) ?_
      rw [List.length_map]
      refine ev_icmp_geZ (tgt := 106) dX13_perform_35 (by decide) (by omega) (by omega) (fun c35 => ?_) (fun c35 => by omega)
      refine ev_iincZ dX13_perform_106 rfl (by decide) rfl ?_
      dsimp only [List.set]
      refine ev_goto (tgt := 13) dX13_perform_109 (by decide) ?_
      refine hN _ _ (by repeat' first | exact rfl | exact trivial | exact vz_eq (by omega) | refine And.intro ?_ ?_) ⟨A2, K2, fun e k he hk => ?_, F2⟩
      rw [hA2 e k he hk]
      unfold stA
      simp only [stg_0, stg_L]
  · obtain ⟨A1, K1, hA1, F1⟩ := hP1
    obtain ⟨k1, k2, k3, k4, k5, k6, k7⟩ := id K1
    have hI1 := hS.sub hI F1
    have ha1 := hI1 _ _ hIa
    have hda1 := hI1 _ _ hIda
    have T1 := hT.sub hI1
    obtain ⟨A91, x91, y91, hst1, hsv1, -⟩ := id T1
    refine ev_iload dX13_perform_13 rfl ?_
    refine ev_aload_n dX13_perform_15 rfl ?_
    refine ev_getf dX13_perform_16 gf_X13_19_X13 ha1 rfl ?_
    refine ev_alenZ dX13_perform_19 hda1 rfl ?_
    refine ev_icmp_geZ (tgt := 112) dX13_perform_20 (by decide) (by omega) (by omega) (fun c20 => ?_) (fun c20 => by omega)
    refine ev_return dX13_perform_112 rfl ?_
    refine ⟨_, rfl, rfl, ⟨A1, B0, K1, fun e k he hk => ?_, fun k hk => ?_⟩, F1⟩
    · rw [hA1 e k he hk]
      unfold stA pfS
      simp only [stg_0]
    · rw [hB0 k hk]
      unfold pfC
      simp
end L3S

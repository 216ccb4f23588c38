/-! THE COMPONENT: check() (printed by gen) -/
section O9S
variable {g : GB} {M : MI} {d c k : Nat} {h : HM}
/-- a check's end: refused for e, or not -/
def chQ (g : GB) (h : HM) (e : Option Er) : RS → HM → Prop := match e with
  | none => fun r h' => r = .inl none ∧ h' = h
  | some e => fun r h' => ∃ q : Nat, r = .inr ("DanceNotation$RefusedException", q) ∧ h' q = some (.inr (13, [.null, .null, .null, .null, .null, vz 0, vz ((e.1 : Nat) : Int), vz e.2])) ∧ Fr g h h' []
theorem chQ_inl {e : Option Er} {v : Option Value} {h' : HM} (q : chQ g h e (.inl v) h') : e = none ∧ v = none ∧ h' = h := by
  cases e with
  | none => exact ⟨rfl, by cases q.1; rfl, q.2⟩
  | some e => obtain ⟨x, r, -⟩ := q; cases r
def chE (t w u : Nat) : Option Er := if t ≠ 0 then some (1, ((low t : Nat) : Int)) else if w > 99 ∨ u > 999 then some (2, -1) else none
set_option maxRecDepth 100000 in
set_option maxHeartbeats 4000000 in
theorem k_chk8 {a κ w u D : Nat} (hG : GKx g) (hk : ∃ fs, h a = some (.inr (nCi κ, fs))) (hlen : Kc g (fam_length κ) D 0 0 [.ref a] h (sR (some (vz ((w : Nat) : Int))) h)) (hcue : Kc g (fam_cues κ) D 0 0 [.ref a] h (sR (some (vz ((u : Nat) : Int))) h)) (hw : w < 2000000000) (hu : u < 2000000000) (hd : D + 4 ≤ d) : Kc g mX8_check d (1) (8) [.ref a] h (chQ g h (chE 0 w u)) := by
  refine Kc.of (ls := [some (.ref a)]) (by decide +kernel) (Nat.le_of_ble_eq_true rfl) rfl ?_
  have T19 : (w > 99 ∨ u > 999) → Ev g mX8_check d 1 8 (chQ g h (chE 0 w u)) 19 [some (.ref a)] [] h := by
    intro hbad
    refine ev_newC (c' := 0) (k' := 0) [.null, .null, .null, .null, .null, vz 0, vz 0, vz 0] dX8_check_19 cf_X17 q2037 q1988 q167 rfl (by omega) (by omega) (fun q1 hp_2 e3 B4 Hq1_5 f6 => ?_)
    have z7 := ((Fr.refl (g := g) _ [])).fresh e3
    have F8 := ((Fr.refl (g := g) _ [])).alloc (Or.inl ⟨_, Hq1_5⟩) f6 e3
    refine ev_dup dX8_check_22 rfl ?_
    refine ev_iconstZ dX8_check_23 ?_
    refine ev_iconstZ dX8_check_24 ?_
    refine ev_callVR dX8_check_25 ci_X8_36 ce_X17_init Hq1_5 rfl rfl rfl (k_initX17 (d := 3) hG Hq1_5 B4 (Nat.le_refl _)) (by omega) (by omega) (by omega) (Nat.le_of_ble_eq_true rfl) (fun v9 hp_9 P9 => ?_)
    obtain ⟨rfl, hn9, fr9⟩ := P9
    have F10 := (F8).call fr9 (fun x hx => Or.inr (Or.inl (by rw [List.mem_singleton.mp hx]; exact z7)))
    have e9 : chE 0 w u = some (2, -1) := by unfold chE; rw [if_neg (by omega), if_pos hbad]
    rw [e9]
    exact ev_athrow (C := "") dX8_check_28 hn9 rfl (evx_out rfl ⟨q1, rfl, hn9, F10⟩)
  refine ev_aload_n dX8_check_0 rfl ?_
  refine ev_callNE dX8_check_1 (nv_X8_24 hG) fe_length (hk) rfl rfl (hlen) (by omega) (Nat.le_of_ble_eq_true rfl) ?_
  refine ev_bipushZ dX8_check_4 rfl ?_
  refine ev_icmp_gtZ (tgt := 19) dX8_check_6 (by decide) (by omega) (by omega) (fun c6 => ?_) (fun c6 => ?_)
  · exact T19 (by omega)
  · refine ev_aload_n dX8_check_9 rfl ?_
    refine ev_callNE dX8_check_10 (nv_X8_19 hG) fe_cues (hk) rfl rfl (hcue) (by omega) (Nat.le_of_ble_eq_true rfl) ?_
    refine ev_sipushZ dX8_check_13 rfl ?_
    refine ev_icmp_leZ (tgt := 29) dX8_check_16 (by decide) (by omega) (by omega) (fun c16 => ?_) (fun c16 => ?_)
    · refine ev_return dX8_check_29 rfl ?_
      have e9 : chE 0 w u = none := by unfold chE; rw [if_neg (by omega), if_neg (by omega)]
      rw [e9]
      exact ⟨rfl, rfl⟩
    · exact T19 (by omega)
theorem twl_take {ds : List Nat} {i x : Nat} (h : ds[i]? = some x) : twl (ds.take (i + 1)) = ((twl (ds.take i)).1 ||| ((twl (ds.take i)).2 &&& 1 <<< x), (twl (ds.take i)).2 ||| 1 <<< x) := by
  unfold twl; rw [take_snoc h, List.foldl_append]; rfl
theorem andl_lt {a b : Nat} (h : a < 256) : a &&& b < 256 := Nat.lt_of_le_of_lt Nat.and_le_left h
set_option maxRecDepth 100000 in
set_option maxHeartbeats 4000000 in
theorem k_chkP {a w u D2 : Nat} {nd : Nd} {as : List Nat} (hG : GKx g) (H : ndC h a nd as) (h1 : nd.1 ≤ 1) (ho : ndOk2 nd) (hlen : Kc g (fam_length 0) D2 0 0 [.ref a] h (sR (some (vz ((w : Nat) : Int))) h)) (hcue : Kc g (fam_cues 0) D2 0 0 [.ref a] h (sR (some (vz ((u : Nat) : Int))) h)) (hw : w < 2000000000) (hu : u < 2000000000) (hd : D2 + 5 ≤ d) : Kc g mX13_check d (1) (8) [.ref a] h (chQ g h (chE (twl nd.2.2.2.1).1 w u)) := by
  refine Kc.of (ls := [some (.ref a), none, none, none, none, none, none]) (by decide +kernel) (Nat.le_of_ble_eq_true rfl) rfl ?_
  obtain ⟨da, st, sv, D, -, ha, hda, hD, -, -, hl⟩ := H.1 h1
  have hds9 := (ho.1.2.2.2 h1).2.2.1
  have hds := mem_lt hds9
  refine ev_iconstZ dX13_check_0 ?_
  refine ev_istore_n dX13_check_1 (by decide) rfl ?_
  dsimp only [List.set]
  refine ev_iconstZ dX13_check_2 ?_
  refine ev_istore_n dX13_check_3 (by decide) rfl ?_
  dsimp only [List.set]
  refine ev_aload_n dX13_check_4 rfl ?_
  refine ev_getf dX13_check_5 gf_X13_19_X13 ha rfl ?_
  refine ev_astore_n dX13_check_8 (by decide) rfl ?_
  dsimp only [List.set]
  refine ev_aload_n dX13_check_9 rfl ?_
  refine ev_alenZ dX13_check_10 hda rfl ?_
  refine ev_istore dX13_check_11 (by decide) rfl ?_
  dsimp only [List.set]
  refine ev_iconstZ dX13_check_13 ?_
  refine ev_istore dX13_check_14 (by decide) rfl ?_
  dsimp only [List.set]
  refine ev_for (st := []) nd.2.2.2.1.length (fun i h1 => h1 = h) (fun i => [some (.ref a), some (vz ((((twl (nd.2.2.2.1.take i))).2 : Nat) : Int)), some (vz ((((twl (nd.2.2.2.1.take i))).1 : Nat) : Int)), some (.ref da), some (vz ((nd.2.2.2.1.length : Nat) : Int)), some (vz ((i : Nat) : Int)), none]) 0 (Nat.zero_le _) rfl ⟨rfl, rfl, rfl, rfl, rfl, rfl, trivial⟩ (fun i h1 _ hi eh hK => ?_) (fun h1 eh => ?_)
  · subst eh
    obtain ⟨x, hx⟩ : ∃ x, nd.2.2.2.1[i]? = some x := ⟨_, List.getElem?_eq_getElem hi⟩
    have hx8 := hds x (List.mem_of_getElem? hx)
    have hDx : D ((i : Nat) : Int).toNat = ((x : Nat) : Int) := by rw [Int.toNat_natCast]; exact hD i x hx
    have hb1 := twl_lt nd.2.2.2.1 hds9 i (by omega)
    have hb2 := shl8 hx8
    have hb3 := andl_lt (b := 1 <<< x) hb1.2
    refine ev_iload dX13_check_16 rfl ?_
    refine ev_iload dX13_check_18 rfl ?_
    refine ev_icmp_geZ (tgt := 51) dX13_check_20 (by decide) (by omega) (by omega) (fun c20 => by omega) (fun c20 => ?_)
    refine ev_aload_n dX13_check_23 rfl ?_
    refine ev_iload dX13_check_24 rfl ?_
    refine ev_ialdY dX13_check_26 hda (by omega) ?_
    rw [hDx]
    refine ev_istore dX13_check_27 (by decide) rfl ?_
    dsimp only [List.set]
    refine ev_iload_n dX13_check_29 rfl ?_
    refine ev_iload_n dX13_check_30 rfl ?_
    refine ev_iconstZ dX13_check_31 ?_
    refine ev_iload dX13_check_32 rfl ?_
    refine ev_ishlZ dX13_check_34 hx8 ?_
    refine ev_iandZ (a := (twl (nd.2.2.2.1.take i)).2) (b := 1 <<< x) dX13_check_35 (by omega) (by omega) ?_
    refine ev_iorZ (a := (twl (nd.2.2.2.1.take i)).1) (b := (twl (nd.2.2.2.1.take i)).2 &&& 1 <<< x) dX13_check_36 (by omega) (by omega) ?_
    refine ev_istore_n dX13_check_37 (by decide) rfl ?_
    dsimp only [List.set]
    refine ev_iload_n dX13_check_38 rfl ?_
    refine ev_iconstZ dX13_check_39 ?_
    refine ev_iload dX13_check_40 rfl ?_
    refine ev_ishlZ dX13_check_42 hx8 ?_
    refine ev_iorZ (a := (twl (nd.2.2.2.1.take i)).2) (b := 1 <<< x) dX13_check_43 (by omega) (by omega) ?_
    refine ev_istore_n dX13_check_44 (by decide) rfl ?_
    dsimp only [List.set]
    refine ev_iincZ dX13_check_45 rfl (by decide) rfl ?_
    dsimp only [List.set]
    refine ev_goto (tgt := 16) dX13_check_48 (by decide) ?_
    exact hK _ _ ⟨rfl, vz_eq (by rw [twl_take hx]), vz_eq (by rw [twl_take hx]), rfl, rfl, vz_eq (by omega), trivial⟩ rfl
  · subst eh
    simp only [List.take_length]
    have hb := twl_lt nd.2.2.2.1 hds9 nd.2.2.2.1.length (Nat.le_refl _)
    rw [List.take_length] at hb
    refine ev_iload dX13_check_16 rfl ?_
    refine ev_iload dX13_check_18 rfl ?_
    refine ev_icmp_geZ (tgt := 51) dX13_check_20 (by decide) (by omega) (by omega) (fun c20 => ?_) (fun c20 => by omega)
    refine ev_iload_n dX13_check_51 rfl ?_
    refine ev_if_eqZ (tgt := 68) dX13_check_52 (by decide) (by omega) (fun c52 => ?_) (fun c52 => ?_)
    · have ht0 : (twl nd.2.2.2.1).1 = 0 := by omega
      have e9 : chE (twl nd.2.2.2.1).1 w u = chE 0 w u := by rw [ht0]
      rw [e9]
      refine ev_aload_n dX13_check_68 rfl ?_
      refine ev_callV dX13_check_69 cu_X13_43 ce_X8_check ha rfl rfl rfl (k_chk8 (d := D2 + 4) (κ := 0) hG ⟨_, ha⟩ hlen hcue hw hu (Nat.le_refl _)) (by omega) (Nat.le_refl _) (Nat.le_refl _) (Nat.le_of_ble_eq_true rfl) (fun v h2 q2 => ?_) (fun E q h2 r2 => evx_out rfl r2)
      obtain ⟨he2, rfl, rfl⟩ := chQ_inl q2
      refine ev_return dX13_check_72 rfl ?_
      rw [he2]
      exact ⟨rfl, rfl⟩
    · have e9 : chE (twl nd.2.2.2.1).1 w u = some (1, ((low (twl nd.2.2.2.1).1 : Nat) : Int)) := by unfold chE; rw [if_pos (by omega)]
      rw [e9]
      refine ev_newC (c' := 0) (k' := 0) [.null, .null, .null, .null, .null, vz 0, vz 0, vz 0] dX13_check_55 cf_X17 q1987 q1988 q167 rfl (by omega) (by omega) (fun q1 hp_2 e3 B4 Hq1_5 f6 => ?_)
      have ha_7 := (f6 _ (ne_no ha e3)).trans ha
      have hda_8 := (f6 _ (ne_no hda e3)).trans hda
      have z9 := ((Fr.refl (g := g) _ [])).fresh e3
      have F10 := ((Fr.refl (g := g) _ [])).alloc (Or.inl ⟨_, Hq1_5⟩) f6 e3
      refine ev_dup dX13_check_58 rfl ?_
      refine ev_iconstZ dX13_check_59 ?_
      refine ev_iload_n dX13_check_60 rfl ?_
      refine ev_callSE dX13_check_61 cs_X13_34 ce_J28_numberOfTrailingZeros rfl rfl (k_ntz (d := 0) (n := (twl nd.2.2.2.1).1) ⟨by omega, hb.1⟩) (by omega) (Nat.le_of_ble_eq_true rfl) ?_
      refine ev_callVR dX13_check_64 ci_X13_40 ce_X17_init Hq1_5 rfl rfl rfl (k_initX17 (d := 3) hG Hq1_5 B4 (Nat.le_refl _)) (by omega) (by omega) (by omega) (Nat.le_of_ble_eq_true rfl) (fun v11 hp_11 P11 => ?_)
      obtain ⟨rfl, hn11, fr11⟩ := P11
      have ha_12 := fr11.keep ha_7 (by simp only [List.mem_cons, List.not_mem_nil, or_false, not_or]; exact (ne_no ha e3))
      have hda_13 := fr11.keep hda_8 (by simp only [List.mem_cons, List.not_mem_nil, or_false, not_or]; exact (ne_no hda e3))
      have F14 := (F10).call fr11 (fun x hx => Or.inr (Or.inl (by rw [List.mem_singleton.mp hx]; exact z9)))
      exact ev_athrow (C := "") dX13_check_67 hn11 rfl (evx_out rfl ⟨q1, rfl, hn11, F14⟩)
def twV (lay : Bool) (ws : List Nat) : Nat × Nat := ws.foldl (fun p w => (p.1 ||| (if lay then p.2 &&& w else 0), p.2 ||| w)) (0, 0)
theorem twV_take {lay : Bool} {ws : List Nat} {i w : Nat} (h : ws[i]? = some w) : twV lay (ws.take (i + 1)) = ((twV lay (ws.take i)).1 ||| (if lay then (twV lay (ws.take i)).2 &&& w else 0), (twV lay (ws.take i)).2 ||| w) := by
  unfold twV; rw [take_snoc h, List.foldl_append]; rfl
theorem twV_lt (lay : Bool) {ws : List Nat} (hw : ∀ w ∈ ws, w < 256) : (twV lay ws).1 < 256 ∧ (twV lay ws).2 < 256 := by
  have : ∀ (ws : List Nat) (p : Nat × Nat), (∀ w ∈ ws, w < 256) → p.1 < 256 ∧ p.2 < 256 → (ws.foldl (fun p w => (p.1 ||| (if lay then p.2 &&& w else 0), p.2 ||| w)) p).1 < 256 ∧ (ws.foldl (fun p w => (p.1 ||| (if lay then p.2 &&& w else 0), p.2 ||| w)) p).2 < 256 := by
    intro ws
    induction ws with
    | nil => intro p _ hp; exact hp
    | cons w t ih =>
      intro p h hp
      refine ih _ (fun x hx => h x (List.mem_cons_of_mem _ hx)) ⟨Nat.or_lt_two_pow (n := 8) hp.1 ?_, Nat.or_lt_two_pow (n := 8) hp.2 (h w List.mem_cons_self)⟩
      split
      · exact andl_lt hp.2
      · decide
  exact this ws (0, 0) hw ⟨by decide, by decide⟩
set_option maxRecDepth 100000 in
set_option maxHeartbeats 4000000 in
theorem k_chkV {a pl v cap D D2 w u : Nat} {mc : Int} {lay : Bool} {f : Nat → Option Nat} {as ws : List Nat} (hG : GKx g) (ha : h a = some (.inr (12, [vz (bI lay), .ref pl]))) (hpl : h pl = some (.inr (29, [vz mc, .ref v, vz ((as.length : Nat) : Int)]))) (hv : h v = some (.inl (9, (cap, .inr (.inr (.inr (.inr (f)))))))) (hf : ∀ i : Nat, i < as.length → f i = as[i]?) (hcap : as.length ≤ cap) (hP : Prs g fam_used h D as ws) (hw256 : ∀ w ∈ ws, w < 256) (hl : as.length < 1000000) (hlen : Kc g (fam_length 6) D2 0 0 [.ref a] h (sR (some (vz ((w : Nat) : Int))) h)) (hcue : Kc g (fam_cues 6) D2 0 0 [.ref a] h (sR (some (vz ((u : Nat) : Int))) h)) (hw : w < 2000000000) (hu : u < 2000000000) (hd : D2 + 5 ≤ d ∧ D + 1 ≤ d) : Kc g mX16_check d (1) (8) [.ref a] h (chQ g h (chE (twV lay ws).1 w u)) := by
  refine Kc.of (ls := [some (.ref a), none, none, none, none]) (by decide +kernel) (Nat.le_of_ble_eq_true rfl) rfl ?_
  have hwl := hP.1
  refine ev_iconstZ dX16_check_0 ?_
  refine ev_istore_n dX16_check_1 (by decide) rfl ?_
  dsimp only [List.set]
  refine ev_iconstZ dX16_check_2 ?_
  refine ev_istore_n dX16_check_3 (by decide) rfl ?_
  dsimp only [List.set]
  refine ev_iconstZ dX16_check_4 ?_
  refine ev_istore_n dX16_check_5 (by decide) rfl ?_
  dsimp only [List.set]
  refine ev_for (st := []) ws.length (fun i h1 => h1 = h) (fun i => [some (.ref a), some (vz ((((twV lay (ws.take i))).2 : Nat) : Int)), some (vz ((((twV lay (ws.take i))).1 : Nat) : Int)), some (vz ((i : Nat) : Int)), none]) 0 (Nat.zero_le _) rfl ⟨rfl, rfl, rfl, rfl, trivial⟩ (fun i h1 _ hi eh hK => ?_) (fun h1 eh => ?_)
  · subst eh
    obtain ⟨w, hw9⟩ : ∃ w, ws[i]? = some w := ⟨_, List.getElem?_eq_getElem hi⟩
    obtain ⟨q, hq⟩ : ∃ q, as[i]? = some q := ⟨_, List.getElem?_eq_getElem (by omega)⟩
    obtain ⟨κ, hk, hK2⟩ := hP.2 i q w hq hw9
    have hw8 := hw256 w (List.mem_of_getElem? hw9)
    have hb1 := twV_lt lay (fun x hx => hw256 x (List.mem_of_mem_take (i := i) hx))
    have hb3 := andl_lt (b := w) hb1.2
    refine ev_iload_n dX16_check_6 rfl ?_
    refine ev_aload_n dX16_check_7 rfl ?_
    refine ev_getf dX16_check_8 gf_X16_15_X16 ha rfl ?_
    refine ev_callVE dX16_check_11 cv_X16_19_J26 ce_J26_size hpl rfl rfl rfl (al_size hpl) (by omega) (Nat.le_of_ble_eq_true rfl) ?_
    refine ev_icmp_geZ (tgt := 65) dX16_check_14 (by decide) (by omega) (by omega) (fun c14 => by omega) (fun c14 => ?_)
    refine ev_aload_n dX16_check_17 rfl ?_
    refine ev_getf dX16_check_18 gf_X16_15_X16 ha rfl ?_
    refine ev_iload_n dX16_check_21 rfl ?_
    refine ev_callVE dX16_check_22 cv_X16_25_J26 ce_J26_get hpl rfl rfl rfl (al_get hpl hv (by omega) (by omega) (by rw [Int.toNat_natCast, hf i (by omega), hq])) (by omega) (Nat.le_of_ble_eq_true rfl) ?_
    refine ev_castN dX16_check_25 q908 hk ?_
    refine ev_astore dX16_check_28 (by decide) rfl ?_
    dsimp only [List.set]
    refine ev_iload_n dX16_check_30 rfl ?_
    refine ev_aload_n dX16_check_31 rfl ?_
    refine ev_getf dX16_check_32 gf_X16_9_X16 ha rfl ?_
    refine ev_if_eqB (tgt := 48) dX16_check_35 (by decide) (fun c35 => ?_) (fun c35 => ?_)
    · have hc3 : (if lay then (twV lay (ws.take i)).2 &&& w else 0) = 0 := by rw [c35]; rfl
      refine ev_iconstZ dX16_check_48 ?_
      refine ev_iorZ (a := (twV lay (ws.take i)).1) (b := 0) dX16_check_49 (by omega) (by omega) ?_
      refine ev_istore_n dX16_check_50 (by decide) rfl ?_
      dsimp only [List.set]
      refine ev_iload_n dX16_check_51 rfl ?_
      refine ev_aload dX16_check_52 rfl ?_
      refine ev_callNE dX16_check_54 (nv_X16_41 hG) fe_used (hk) rfl rfl (hK2) (by omega) (Nat.le_of_ble_eq_true rfl) ?_
      refine ev_iorZ (a := (twV lay (ws.take i)).2) (b := w) dX16_check_57 (by omega) (by omega) ?_
      refine ev_istore_n dX16_check_58 (by decide) rfl ?_
      dsimp only [List.set]
      refine ev_iincZ dX16_check_59 rfl (by decide) rfl ?_
      dsimp only [List.set]
      refine ev_goto (tgt := 6) dX16_check_62 (by decide) ?_
      exact hK _ _ ⟨rfl, vz_eq (by rw [twV_take hw9]), vz_eq (by rw [twV_take hw9, hc3]), vz_eq (by omega), trivial⟩ rfl
    · have hc3 : (if lay then (twV lay (ws.take i)).2 &&& w else 0) = (twV lay (ws.take i)).2 &&& w := by rw [c35]; rfl
      refine ev_iload_n dX16_check_38 rfl ?_
      refine ev_aload dX16_check_39 rfl ?_
      refine ev_callNE dX16_check_41 (nv_X16_41 hG) fe_used (hk) rfl rfl (hK2) (by omega) (Nat.le_of_ble_eq_true rfl) ?_
      refine ev_iandZ (a := (twV lay (ws.take i)).2) (b := w) dX16_check_44 (by omega) (by omega) ?_
      refine ev_goto (tgt := 49) dX16_check_45 (by decide) ?_
      refine ev_iorZ (a := (twV lay (ws.take i)).1) (b := (twV lay (ws.take i)).2 &&& w) dX16_check_49 (by omega) (by omega) ?_
      refine ev_istore_n dX16_check_50 (by decide) rfl ?_
      dsimp only [List.set]
      refine ev_iload_n dX16_check_51 rfl ?_
      refine ev_aload dX16_check_52 rfl ?_
      refine ev_callNE dX16_check_54 (nv_X16_41 hG) fe_used (hk) rfl rfl (hK2) (by omega) (Nat.le_of_ble_eq_true rfl) ?_
      refine ev_iorZ (a := (twV lay (ws.take i)).2) (b := w) dX16_check_57 (by omega) (by omega) ?_
      refine ev_istore_n dX16_check_58 (by decide) rfl ?_
      dsimp only [List.set]
      refine ev_iincZ dX16_check_59 rfl (by decide) rfl ?_
      dsimp only [List.set]
      refine ev_goto (tgt := 6) dX16_check_62 (by decide) ?_
      exact hK _ _ ⟨rfl, vz_eq (by rw [twV_take hw9]), vz_eq (by rw [twV_take hw9, hc3]), vz_eq (by omega), trivial⟩ rfl
  · subst eh
    simp only [List.take_length]
    have hb := twV_lt lay hw256
    refine ev_iload_n dX16_check_6 rfl ?_
    refine ev_aload_n dX16_check_7 rfl ?_
    refine ev_getf dX16_check_8 gf_X16_15_X16 ha rfl ?_
    refine ev_callVE dX16_check_11 cv_X16_19_J26 ce_J26_size hpl rfl rfl rfl (al_size hpl) (by omega) (Nat.le_of_ble_eq_true rfl) ?_
    refine ev_icmp_geZ (tgt := 65) dX16_check_14 (by decide) (by omega) (by omega) (fun c14 => ?_) (fun c14 => by omega)
    refine ev_iload_n dX16_check_65 rfl ?_
    refine ev_if_eqZ (tgt := 82) dX16_check_66 (by decide) (by omega) (fun c66 => ?_) (fun c66 => ?_)
    · have ht0 : (twV lay ws).1 = 0 := by omega
      have e9 : chE (twV lay ws).1 w u = chE 0 w u := by rw [ht0]
      rw [e9]
      refine ev_aload_n dX16_check_82 rfl ?_
      refine ev_callV dX16_check_83 cu_X16_55 ce_X8_check ha rfl rfl rfl (k_chk8 (d := D2 + 4) (κ := 6) hG ⟨_, ha⟩ hlen hcue hw hu (Nat.le_refl _)) (by omega) (Nat.le_refl _) (Nat.le_refl _) (Nat.le_of_ble_eq_true rfl) (fun v h2 q2 => ?_) (fun E q h2 r2 => evx_out rfl r2)
      obtain ⟨he2, rfl, rfl⟩ := chQ_inl q2
      refine ev_return dX16_check_86 rfl ?_
      rw [he2]
      exact ⟨rfl, rfl⟩
    · have e9 : chE (twV lay ws).1 w u = some (1, ((low (twV lay ws).1 : Nat) : Int)) := by unfold chE; rw [if_pos (by omega)]
      rw [e9]
      refine ev_newC (c' := 0) (k' := 0) [.null, .null, .null, .null, .null, vz 0, vz 0, vz 0] dX16_check_69 cf_X17 q2086 q1988 q167 rfl (by omega) (by omega) (fun q1 hp_2 e3 B4 Hq1_5 f6 => ?_)
      have ha_7 := (f6 _ (ne_no ha e3)).trans ha
      have hpl_8 := (f6 _ (ne_no hpl e3)).trans hpl
      have z9 := ((Fr.refl (g := g) _ [])).fresh e3
      have F10 := ((Fr.refl (g := g) _ [])).alloc (Or.inl ⟨_, Hq1_5⟩) f6 e3
      refine ev_dup dX16_check_72 rfl ?_
      refine ev_iconstZ dX16_check_73 ?_
      refine ev_iload_n dX16_check_74 rfl ?_
      refine ev_callSE dX16_check_75 cs_X16_46 ce_J28_numberOfTrailingZeros rfl rfl (k_ntz (d := 0) (n := (twV lay ws).1) ⟨by omega, hb.1⟩) (by omega) (Nat.le_of_ble_eq_true rfl) ?_
      refine ev_callVR dX16_check_78 ci_X16_52 ce_X17_init Hq1_5 rfl rfl rfl (k_initX17 (d := 3) hG Hq1_5 B4 (Nat.le_refl _)) (by omega) (by omega) (by omega) (Nat.le_of_ble_eq_true rfl) (fun v11 hp_11 P11 => ?_)
      obtain ⟨rfl, hn11, fr11⟩ := P11
      have ha_12 := fr11.keep ha_7 (by simp only [List.mem_cons, List.not_mem_nil, or_false, not_or]; exact (ne_no ha e3))
      have hpl_13 := fr11.keep hpl_8 (by simp only [List.mem_cons, List.not_mem_nil, or_false, not_or]; exact (ne_no hpl e3))
      have F14 := (F10).call fr11 (fun x hx => Or.inr (Or.inl (by rw [List.mem_singleton.mp hx]; exact z9)))
      exact ev_athrow (C := "") dX16_check_81 hn11 rfl (evx_out rfl ⟨q1, rfl, hn11, F14⟩)
end O9S

/-! THE COMPONENT: partCount, part; used, depth, nodes, cues (printed by gen) -/
section N1S
variable {g : GB} {M : MI} {d c k : Nat} {h : HM}
theorem castN (κ : Nat) : (Jvm.Cond.castable (nC κ) "DanceNotation$Node") ∈ lw_tbl := match κ with
  | 0 => q3308
  | 1 => q3308
  | 2 => q3306
  | 3 => q3309
  | 4 => q3307
  | 5 => q3310
  | _ + 6 => q3311
section
variable {Q : RS → HM → Prop} {pc : Nat} {ls : List (Option Value)} {st : List Value}
theorem ev_castN {idx b κ : Nat} (hd : decode M.2.1 pc = .ok (.checkcast idx, 3)) (hw : (Jvm.Cond.classLink M.1.cls idx "DanceNotation$Node") ∈ lw_all) (hb : ∃ fs, h b = some (.inr (nCi κ, fs))) (kk : Ev g M d c k Q (pc + 3) ls (.ref b :: st) h) : Ev g M d c k Q pc ls (.ref b :: st) h := by
  obtain ⟨fs, hb⟩ := hb
  obtain ⟨T, N, hci⟩ := nCl κ
  exact ev_castY hd hw hb hci (Or.inr (castN κ)) kk
end
set_option maxRecDepth 100000 in
set_option maxHeartbeats 4000000 in
theorem k_pcL {a : Nat} : Kc g mX11_partCount d (0) (0) [.ref a] h (sR (some (vz 0)) h) := by
  refine Kc.of (ls := [some (.ref a)]) (by decide +kernel) (Nat.le_of_ble_eq_true rfl) rfl ?_
  refine ev_iconstZ dX11_partCount_0 ?_
  refine ev_ireturn dX11_partCount_1 rfl ?_
  exact ⟨rfl, rfl⟩
set_option maxRecDepth 100000 in
set_option maxHeartbeats 4000000 in
theorem k_pcS {a : Nat} : Kc g mX9_partCount d (0) (0) [.ref a] h (sR (some (vz 1)) h) := by
  refine Kc.of (ls := [some (.ref a)]) (by decide +kernel) (Nat.le_of_ble_eq_true rfl) rfl ?_
  refine ev_iconstZ dX9_partCount_0 ?_
  refine ev_ireturn dX9_partCount_1 rfl ?_
  exact ⟨rfl, rfl⟩
set_option maxRecDepth 100000 in
set_option maxHeartbeats 4000000 in
theorem k_pcV {a pl v : Nat} {z mc n : Int} (ha : h a = some (.inr (12, [vz z, .ref pl]))) (hpl : h pl = some (.inr (29, [vz mc, .ref v, vz n]))) (hd : 1 ≤ d) : Kc g mX16_partCount d (0) (0) [.ref a] h (sR (some (vz n)) h) := by
  refine Kc.of (ls := [some (.ref a)]) (by decide +kernel) (Nat.le_of_ble_eq_true rfl) rfl ?_
  refine ev_aload_n dX16_partCount_0 rfl ?_
  refine ev_getf dX16_partCount_1 gf_X16_15_X16 ha rfl ?_
  refine ev_callVE dX16_partCount_4 cv_X16_19_J26 ce_J26_size hpl rfl rfl rfl (al_size hpl) (by omega) (Nat.le_of_ble_eq_true rfl) ?_
  refine ev_ireturn dX16_partCount_7 rfl ?_
  exact ⟨rfl, rfl⟩
set_option maxRecDepth 100000 in
set_option maxHeartbeats 4000000 in
theorem k_partX10 {a p : Nat} {i : Int} {x : Value} (ha : h a = some (.inr (7, [.ref p, x]))) : Kc g mX9_part d (0) (0) [.ref a, vz i] h (sR (some (.ref p)) h) := by
  refine Kc.of (ls := [some (.ref a), some (vz i)]) (by decide +kernel) (Nat.le_of_ble_eq_true rfl) rfl ?_
  refine ev_aload_n dX9_part_0 rfl ?_
  refine ev_getf dX9_part_1 gf_X9_7_X10 ha rfl ?_
  refine ev_areturn dX9_part_4 rfl (Or.inl ⟨_, rfl⟩) (Or.inr ⟨_, rfl⟩) ?_
  exact ⟨rfl, rfl⟩
set_option maxRecDepth 100000 in
set_option maxHeartbeats 4000000 in
theorem k_partX14 {a p : Nat} {i : Int} (ha : h a = some (.inr (10, [.ref p]))) : Kc g mX9_part d (0) (0) [.ref a, vz i] h (sR (some (.ref p)) h) := by
  refine Kc.of (ls := [some (.ref a), some (vz i)]) (by decide +kernel) (Nat.le_of_ble_eq_true rfl) rfl ?_
  refine ev_aload_n dX9_part_0 rfl ?_
  refine ev_getf dX9_part_1 gf_X9_7_X14 ha rfl ?_
  refine ev_areturn dX9_part_4 rfl (Or.inl ⟨_, rfl⟩) (Or.inr ⟨_, rfl⟩) ?_
  exact ⟨rfl, rfl⟩
set_option maxRecDepth 100000 in
set_option maxHeartbeats 4000000 in
theorem k_partX15 {a p : Nat} {i : Int} (ha : h a = some (.inr (11, [.ref p]))) : Kc g mX9_part d (0) (0) [.ref a, vz i] h (sR (some (.ref p)) h) := by
  refine Kc.of (ls := [some (.ref a), some (vz i)]) (by decide +kernel) (Nat.le_of_ble_eq_true rfl) rfl ?_
  refine ev_aload_n dX9_part_0 rfl ?_
  refine ev_getf dX9_part_1 gf_X9_7_X15 ha rfl ?_
  refine ev_areturn dX9_part_4 rfl (Or.inl ⟨_, rfl⟩) (Or.inr ⟨_, rfl⟩) ?_
  exact ⟨rfl, rfl⟩
set_option maxRecDepth 100000 in
set_option maxHeartbeats 4000000 in
theorem k_partV {a pl v : Nat} {q cap κ : Nat} {f : Nat → Option Nat} {z mc i n : Int} (ha : h a = some (.inr (12, [vz z, .ref pl]))) (hpl : h pl = some (.inr (29, [vz mc, .ref v, vz n]))) (hv : h v = some (.inl (9, (cap, .inr (.inr (.inr (.inr (f)))))))) (hi : 0 ≤ i ∧ i < n) (hn : n ≤ cap ∧ inR n) (hq : f i.toNat = some q) (hk : ∃ fs, h q = some (.inr (nCi κ, fs))) (hd : 3 ≤ d) : Kc g mX16_part d (0) (0) [.ref a, vz i] h (sR (some (.ref q)) h) := by
  refine Kc.of (ls := [some (.ref a), some (vz i)]) (by decide +kernel) (Nat.le_of_ble_eq_true rfl) rfl ?_
  refine ev_aload_n dX16_part_0 rfl ?_
  refine ev_getf dX16_part_1 gf_X16_15_X16 ha rfl ?_
  refine ev_iload_n dX16_part_4 rfl ?_
  refine ev_callVE dX16_part_5 cv_X16_25_J26 ce_J26_get hpl rfl rfl rfl (al_get hpl hv hi hn hq) (by omega) (Nat.le_of_ble_eq_true rfl) ?_
  refine ev_castN dX16_part_8 q908 hk ?_
  refine ev_areturn dX16_part_11 rfl (Or.inl ⟨_, rfl⟩) (Or.inr ⟨_, rfl⟩) ?_
  exact ⟨rfl, rfl⟩
theorem n_pc {a : Nat} {nd : Nd} {as : List Nat} (H : ndC h a nd as) (hd : 1 ≤ d) : Kc g (fam_partCount nd.1) d 0 0 [.ref a] h (sR (some (vz (as.length : Nat))) h) := by
  obtain ⟨k, r⟩ := nd
  obtain ⟨h1, h2, h3, h4, h5, h6⟩ := H
  match k with
  | 0 => obtain ⟨da, st, sv, D, rfl, -⟩ := h1 (by simp); exact k_pcL
  | 1 => obtain ⟨da, st, sv, D, rfl, -⟩ := h1 (by simp); exact k_pcL
  | 2 => obtain ⟨rfl, -⟩ := h2 rfl; exact k_pcL
  | 3 => obtain ⟨p, rfl, -⟩ := h3 rfl; exact k_pcS
  | 4 => obtain ⟨p, rfl, -⟩ := h4 rfl; exact k_pcS
  | 5 => obtain ⟨p, rfl, -⟩ := h5 rfl; exact k_pcS
  | k + 6 => obtain ⟨pl, v, cap, mc, f, e1, e2, -⟩ := h6 (by simp); exact k_pcV e1 e2 hd
theorem n_part {a i q κ : Nat} {nd : Nd} {as : List Nat} (H : ndC h a nd as) (hq : as[i]? = some q) (hk : ∃ fs, h q = some (.inr (nCi κ, fs))) (hl : as.length < 1000000) (hd : 3 ≤ d) : Kc g (fam_part nd.1) d 0 0 [.ref a, vz (i : Nat)] h (sR (some (.ref q)) h) := by
  obtain ⟨k, r⟩ := nd
  obtain ⟨h1, h2, h3, h4, h5, h6⟩ := H
  have hi := (List.getElem?_eq_some_iff.mp hq).1
  match k with
  | 0 => obtain ⟨da, st, sv, D, rfl, -⟩ := h1 (by simp); simp at hi
  | 1 => obtain ⟨da, st, sv, D, rfl, -⟩ := h1 (by simp); simp at hi
  | 2 => obtain ⟨rfl, -⟩ := h2 rfl; simp at hi
  | 3 =>
    obtain ⟨p, rfl, e⟩ := h3 rfl
    obtain rfl : i = 0 := by simp at hi; exact hi
    cases hq; exact k_partX10 e
  | 4 =>
    obtain ⟨p, rfl, e⟩ := h4 rfl
    obtain rfl : i = 0 := by simp at hi; exact hi
    cases hq; exact k_partX14 e
  | 5 =>
    obtain ⟨p, rfl, e⟩ := h5 rfl
    obtain rfl : i = 0 := by simp at hi; exact hi
    cases hq; exact k_partX15 e
  | k + 6 =>
    obtain ⟨pl, v, cap, mc, f, e1, e2, e3, e4, e5⟩ := h6 (by simp)
    exact k_partV e1 e2 e3 (by omega) (by omega) (by rw [Int.toNat_natCast, e4 i hi, hq]) hk hd
/-- what is said of the parts of a node: the answers ws of a method -/
def Prs (g : GB) (fam : Nat → MI) (h : HM) (D : Nat) (as : List Nat) (ws : List Nat) : Prop := ws.length = as.length ∧ ∀ (i q w : Nat), as[i]? = some q → ws[i]? = some w → ∃ κ : Nat, (∃ fs, h q = some (.inr (nCi κ, fs))) ∧ Kc g (fam κ) D 0 0 [.ref q] h (sR (some (vz (w : Nat))) h)
theorem fold_take {op : Nat → Nat → Nat} {z i w : Nat} {ws : List Nat} (hw : ws[i]? = some w) : (ws.take (i + 1)).foldl op z = op ((ws.take i).foldl op z) w := by
  rw [take_snoc hw, List.foldl_append]; rfl
theorem orf_lt {ws : List Nat} (hw : ∀ w ∈ ws, w < 256) : ∀ (z : Nat), z < 256 → ws.foldl (· ||| ·) z < 256 := by
  induction ws with
  | nil => intro z hz; exact hz
  | cons w t ih => intro z hz; exact ih (fun x hx => hw x (List.mem_cons_of_mem _ hx)) _ (Nat.or_lt_two_pow (n := 8) hz (hw w List.mem_cons_self))
theorem mx_lt {ws : List Nat} {B : Nat} (hw : ∀ w ∈ ws, w < B) : ∀ (z : Nat), z < B → ws.foldl max z < B := by
  induction ws with
  | nil => intro z hz; exact hz
  | cons w t ih => intro z hz; exact ih (fun x hx => hw x (List.mem_cons_of_mem _ hx)) _ (by have := hw w List.mem_cons_self; omega)
set_option maxRecDepth 100000 in
set_option maxHeartbeats 4000000 in
theorem l_used {a D : Nat} {nd : Nd} {as ws : List Nat} (hG : GKx g) (H : ndC h a nd as) (hP : Prs g fam_used h D as ws) (hl : as.length < 1000000) (hd : 4 ≤ d ∧ D + 1 ≤ d) (hb : ∀ w ∈ ws, w < 256) : Kc g mX21_used d (0) (0) [.ref a] h (sR (some (vz ((ws.foldl (· ||| ·) 0 : Nat) : Int))) h) := by
  refine Kc.of (ls := [some (.ref a), none, none]) (by decide +kernel) (Nat.le_of_ble_eq_true rfl) rfl ?_
  have hwl := hP.1
  refine ev_iconstZ dX21_used_0 ?_
  refine ev_istore_n dX21_used_1 (by decide) rfl ?_
  dsimp only [List.set]
  refine ev_iconstZ dX21_used_2 ?_
  refine ev_istore_n dX21_used_3 (by decide) rfl ?_
  dsimp only [List.set]
  refine ev_for (st := []) ws.length (fun i h1 => h1 = h) (fun i => [some (.ref a), some (vz (((ws.take i).foldl (· ||| ·) 0 : Nat) : Int)), some (vz ((i : Nat) : Int))]) 0 (Nat.zero_le _) rfl ⟨rfl, rfl, rfl, trivial⟩ (fun i h1 _ hi eh hK => ?_) (fun h1 eh => ?_)
  · subst eh
    obtain ⟨w, hw⟩ : ∃ w, ws[i]? = some w := ⟨_, List.getElem?_eq_getElem hi⟩
    obtain ⟨q, hq⟩ : ∃ q, as[i]? = some q := ⟨_, List.getElem?_eq_getElem (by omega)⟩
    obtain ⟨κ, hk, hK2⟩ := hP.2 i q w hq hw
    have hb1 : (ws.take i).foldl (· ||| ·) 0 < 256 := orf_lt (fun x hx => hb x (List.mem_of_mem_take hx)) 0 (by decide)
    have hb2 : w < 256 := hb w (List.mem_of_getElem? hw)
    refine ev_iload_n dX21_used_4 rfl ?_
    refine ev_aload_n dX21_used_5 rfl ?_
    refine ev_callNE dX21_used_6 (nv_X21_1 hG) fe_partCount (ndC.cls H) rfl rfl (n_pc H (d := 1) (Nat.le_refl _)) (by omega) (Nat.le_of_ble_eq_true rfl) ?_
    refine ev_icmp_geZ (tgt := 33) dX21_used_11 (by decide) (by omega) (by omega) (fun c11 => by omega) (fun c11 => ?_)
    refine ev_iload_n dX21_used_14 rfl ?_
    refine ev_aload_n dX21_used_15 rfl ?_
    refine ev_iload_n dX21_used_16 rfl ?_
    refine ev_callNE dX21_used_17 (nv_X21_7 hG) fe_part (ndC.cls H) rfl rfl (n_part H (d := 3) hq hk hl (Nat.le_refl _)) (by omega) (Nat.le_of_ble_eq_true rfl) ?_
    refine ev_callNE dX21_used_22 (nv_X21_25 hG) fe_used (hk) rfl rfl (hK2) (by omega) (Nat.le_of_ble_eq_true rfl) ?_
    refine ev_iorZ (a := (ws.take i).foldl (· ||| ·) 0) (b := w) dX21_used_25 (by omega) (by omega) ?_
    refine ev_istore_n dX21_used_26 (by decide) rfl ?_
    dsimp only [List.set]
    refine ev_iincZ dX21_used_27 rfl (by decide) rfl ?_
    dsimp only [List.set]
    refine ev_goto (tgt := 4) dX21_used_30 (by decide) ?_
    exact hK _ _ ⟨rfl, vz_eq (by rw [fold_take hw]), vz_eq (by omega), trivial⟩ rfl
  · subst eh
    simp only [List.take_length]
    refine ev_iload_n dX21_used_4 rfl ?_
    refine ev_aload_n dX21_used_5 rfl ?_
    refine ev_callNE dX21_used_6 (nv_X21_1 hG) fe_partCount (ndC.cls H) rfl rfl (n_pc H (d := 1) (Nat.le_refl _)) (by omega) (Nat.le_of_ble_eq_true rfl) ?_
    refine ev_icmp_geZ (tgt := 33) dX21_used_11 (by decide) (by omega) (by omega) (fun c11 => ?_) (fun c11 => by omega)
    refine ev_iload_n dX21_used_33 rfl ?_
    refine ev_ireturn dX21_used_34 rfl ?_
    exact ⟨rfl, rfl⟩
set_option maxRecDepth 100000 in
set_option maxHeartbeats 4000000 in
theorem l_depth {a D : Nat} {nd : Nd} {as ws : List Nat} (hG : GKx g) (H : ndC h a nd as) (hP : Prs g fam_depth h D as ws) (hl : as.length < 1000000) (hd : 4 ≤ d ∧ D + 1 ≤ d) (hb : ∀ w ∈ ws, w < 1000000) : Kc g mX21_depth d (0) (0) [.ref a] h (sR (some (vz ((1 + ws.foldl max 0 : Nat) : Int))) h) := by
  refine Kc.of (ls := [some (.ref a), none, none]) (by decide +kernel) (Nat.le_of_ble_eq_true rfl) rfl ?_
  have hwl := hP.1
  refine ev_iconstZ dX21_depth_0 ?_
  refine ev_istore_n dX21_depth_1 (by decide) rfl ?_
  dsimp only [List.set]
  refine ev_iconstZ dX21_depth_2 ?_
  refine ev_istore_n dX21_depth_3 (by decide) rfl ?_
  dsimp only [List.set]
  refine ev_for (st := []) ws.length (fun i h1 => h1 = h) (fun i => [some (.ref a), some (vz (((ws.take i).foldl max 0 : Nat) : Int)), some (vz ((i : Nat) : Int))]) 0 (Nat.zero_le _) rfl ⟨rfl, rfl, rfl, trivial⟩ (fun i h1 _ hi eh hK => ?_) (fun h1 eh => ?_)
  · subst eh
    obtain ⟨w, hw⟩ : ∃ w, ws[i]? = some w := ⟨_, List.getElem?_eq_getElem hi⟩
    obtain ⟨q, hq⟩ : ∃ q, as[i]? = some q := ⟨_, List.getElem?_eq_getElem (by omega)⟩
    obtain ⟨κ, hk, hK2⟩ := hP.2 i q w hq hw
    have hb1 : (ws.take i).foldl max 0 < 1000000 := mx_lt (fun x hx => hb x (List.mem_of_mem_take hx)) 0 (by decide)
    have hb2 : w < 1000000 := hb w (List.mem_of_getElem? hw)
    refine ev_iload_n dX21_depth_4 rfl ?_
    refine ev_aload_n dX21_depth_5 rfl ?_
    refine ev_callNE dX21_depth_6 (nv_X21_1 hG) fe_partCount (ndC.cls H) rfl rfl (n_pc H (d := 1) (Nat.le_refl _)) (by omega) (Nat.le_of_ble_eq_true rfl) ?_
    refine ev_icmp_geZ (tgt := 35) dX21_depth_11 (by decide) (by omega) (by omega) (fun c11 => by omega) (fun c11 => ?_)
    refine ev_iload_n dX21_depth_14 rfl ?_
    refine ev_aload_n dX21_depth_15 rfl ?_
    refine ev_iload_n dX21_depth_16 rfl ?_
    refine ev_callNE dX21_depth_17 (nv_X21_7 hG) fe_part (ndC.cls H) rfl rfl (n_part H (d := 3) hq hk hl (Nat.le_refl _)) (by omega) (Nat.le_of_ble_eq_true rfl) ?_
    refine ev_callNE dX21_depth_22 (nv_X21_11 hG) fe_depth (hk) rfl rfl (hK2) (by omega) (Nat.le_of_ble_eq_true rfl) ?_
    refine ev_mmaxN (a := (ws.take i).foldl max 0) (b := w) dX21_depth_25 q2171 (by omega) (by omega) (by omega) (Nat.le_of_ble_eq_true rfl) ?_
    refine ev_istore_n dX21_depth_28 (by decide) rfl ?_
    dsimp only [List.set]
    refine ev_iincZ dX21_depth_29 rfl (by decide) rfl ?_
    dsimp only [List.set]
    refine ev_goto (tgt := 4) dX21_depth_32 (by decide) ?_
    exact hK _ _ ⟨rfl, vz_eq (by rw [fold_take hw]), vz_eq (by omega), trivial⟩ rfl
  · subst eh
    simp only [List.take_length]
    refine ev_iload_n dX21_depth_4 rfl ?_
    refine ev_aload_n dX21_depth_5 rfl ?_
    refine ev_callNE dX21_depth_6 (nv_X21_1 hG) fe_partCount (ndC.cls H) rfl rfl (n_pc H (d := 1) (Nat.le_refl _)) (by omega) (Nat.le_of_ble_eq_true rfl) ?_
    refine ev_icmp_geZ (tgt := 35) dX21_depth_11 (by decide) (by omega) (by omega) (fun c11 => ?_) (fun c11 => by omega)
    refine ev_iconstZ dX21_depth_35 ?_
    refine ev_iload_n dX21_depth_36 rfl ?_
    refine ev_iaddZ dX21_depth_37 ?_
    refine ev_ireturn dX21_depth_38 rfl ?_
    exact ⟨congrArg Sum.inl (vz_eq (by omega)), rfl⟩
set_option maxRecDepth 100000 in
set_option maxHeartbeats 4000000 in
theorem l_nodes {a D : Nat} {nd : Nd} {as ws : List Nat} (hG : GKx g) (H : ndC h a nd as) (hP : Prs g fam_nodes h D as ws) (hl : as.length < 1000000) (hd : 4 ≤ d ∧ D + 1 ≤ d) : Kc g mX21_nodes d (0) (0) [.ref a] h (sR (some (vz ((ws.foldl (· + ·) 1 : Nat) : Int))) h) := by
  refine Kc.of (ls := [some (.ref a), none, none]) (by decide +kernel) (Nat.le_of_ble_eq_true rfl) rfl ?_
  have hwl := hP.1
  refine ev_iconstZ dX21_nodes_0 ?_
  refine ev_istore_n dX21_nodes_1 (by decide) rfl ?_
  dsimp only [List.set]
  refine ev_iconstZ dX21_nodes_2 ?_
  refine ev_istore_n dX21_nodes_3 (by decide) rfl ?_
  dsimp only [List.set]
  refine ev_for (st := []) ws.length (fun i h1 => h1 = h) (fun i => [some (.ref a), some (vz (((ws.take i).foldl (· + ·) 1 : Nat) : Int)), some (vz ((i : Nat) : Int))]) 0 (Nat.zero_le _) rfl ⟨rfl, rfl, rfl, trivial⟩ (fun i h1 _ hi eh hK => ?_) (fun h1 eh => ?_)
  · subst eh
    obtain ⟨w, hw⟩ : ∃ w, ws[i]? = some w := ⟨_, List.getElem?_eq_getElem hi⟩
    obtain ⟨q, hq⟩ : ∃ q, as[i]? = some q := ⟨_, List.getElem?_eq_getElem (by omega)⟩
    obtain ⟨κ, hk, hK2⟩ := hP.2 i q w hq hw
    refine ev_iload_n dX21_nodes_4 rfl ?_
    refine ev_aload_n dX21_nodes_5 rfl ?_
    refine ev_callNE dX21_nodes_6 (nv_X21_1 hG) fe_partCount (ndC.cls H) rfl rfl (n_pc H (d := 1) (Nat.le_refl _)) (by omega) (Nat.le_of_ble_eq_true rfl) ?_
    refine ev_icmp_geZ (tgt := 33) dX21_nodes_11 (by decide) (by omega) (by omega) (fun c11 => by omega) (fun c11 => ?_)
    refine ev_iload_n dX21_nodes_14 rfl ?_
    refine ev_aload_n dX21_nodes_15 rfl ?_
    refine ev_iload_n dX21_nodes_16 rfl ?_
    refine ev_callNE dX21_nodes_17 (nv_X21_7 hG) fe_part (ndC.cls H) rfl rfl (n_part H (d := 3) hq hk hl (Nat.le_refl _)) (by omega) (Nat.le_of_ble_eq_true rfl) ?_
    refine ev_callNE dX21_nodes_22 (nv_X21_22 hG) fe_nodes (hk) rfl rfl (hK2) (by omega) (Nat.le_of_ble_eq_true rfl) ?_
    refine ev_iaddZ dX21_nodes_25 ?_
    refine ev_istore_n dX21_nodes_26 (by decide) rfl ?_
    dsimp only [List.set]
    refine ev_iincZ dX21_nodes_27 rfl (by decide) rfl ?_
    dsimp only [List.set]
    refine ev_goto (tgt := 4) dX21_nodes_30 (by decide) ?_
    exact hK _ _ ⟨rfl, vz_eq (by rw [fold_take hw]; omega), vz_eq (by omega), trivial⟩ rfl
  · subst eh
    simp only [List.take_length]
    refine ev_iload_n dX21_nodes_4 rfl ?_
    refine ev_aload_n dX21_nodes_5 rfl ?_
    refine ev_callNE dX21_nodes_6 (nv_X21_1 hG) fe_partCount (ndC.cls H) rfl rfl (n_pc H (d := 1) (Nat.le_refl _)) (by omega) (Nat.le_of_ble_eq_true rfl) ?_
    refine ev_icmp_geZ (tgt := 33) dX21_nodes_11 (by decide) (by omega) (by omega) (fun c11 => ?_) (fun c11 => by omega)
    refine ev_iload_n dX21_nodes_33 rfl ?_
    refine ev_ireturn dX21_nodes_34 rfl ?_
    exact ⟨rfl, rfl⟩
set_option maxRecDepth 100000 in
set_option maxHeartbeats 4000000 in
theorem l_cues {a D : Nat} {nd : Nd} {as ws : List Nat} (hG : GKx g) (H : ndC h a nd as) (hP : Prs g fam_cues h D as ws) (hl : as.length < 1000000) (hd : 4 ≤ d ∧ D + 1 ≤ d) : Kc g mX8_cues d (0) (0) [.ref a] h (sR (some (vz ((ws.foldl (· + ·) 0 : Nat) : Int))) h) := by
  refine Kc.of (ls := [some (.ref a), none, none]) (by decide +kernel) (Nat.le_of_ble_eq_true rfl) rfl ?_
  have hwl := hP.1
  refine ev_iconstZ dX8_cues_0 ?_
  refine ev_istore_n dX8_cues_1 (by decide) rfl ?_
  dsimp only [List.set]
  refine ev_iconstZ dX8_cues_2 ?_
  refine ev_istore_n dX8_cues_3 (by decide) rfl ?_
  dsimp only [List.set]
  refine ev_for (st := []) ws.length (fun i h1 => h1 = h) (fun i => [some (.ref a), some (vz (((ws.take i).foldl (· + ·) 0 : Nat) : Int)), some (vz ((i : Nat) : Int))]) 0 (Nat.zero_le _) rfl ⟨rfl, rfl, rfl, trivial⟩ (fun i h1 _ hi eh hK => ?_) (fun h1 eh => ?_)
  · subst eh
    obtain ⟨w, hw⟩ : ∃ w, ws[i]? = some w := ⟨_, List.getElem?_eq_getElem hi⟩
    obtain ⟨q, hq⟩ : ∃ q, as[i]? = some q := ⟨_, List.getElem?_eq_getElem (by omega)⟩
    obtain ⟨κ, hk, hK2⟩ := hP.2 i q w hq hw
    refine ev_iload_n dX8_cues_4 rfl ?_
    refine ev_aload_n dX8_cues_5 rfl ?_
    refine ev_callNE dX8_cues_6 (nv_X8_9 hG) fe_partCount (ndC.cls H) rfl rfl (n_pc H (d := 1) (Nat.le_refl _)) (by omega) (Nat.le_of_ble_eq_true rfl) ?_
    refine ev_icmp_geZ (tgt := 29) dX8_cues_9 (by decide) (by omega) (by omega) (fun c9 => by omega) (fun c9 => ?_)
    refine ev_iload_n dX8_cues_12 rfl ?_
    refine ev_aload_n dX8_cues_13 rfl ?_
    refine ev_iload_n dX8_cues_14 rfl ?_
    refine ev_callNE dX8_cues_15 (nv_X8_15 hG) fe_part (ndC.cls H) rfl rfl (n_part H (d := 3) hq hk hl (Nat.le_refl _)) (by omega) (Nat.le_of_ble_eq_true rfl) ?_
    refine ev_callNE dX8_cues_18 (nv_X8_19 hG) fe_cues (hk) rfl rfl (hK2) (by omega) (Nat.le_of_ble_eq_true rfl) ?_
    refine ev_iaddZ dX8_cues_21 ?_
    refine ev_istore_n dX8_cues_22 (by decide) rfl ?_
    dsimp only [List.set]
    refine ev_iincZ dX8_cues_23 rfl (by decide) rfl ?_
    dsimp only [List.set]
    refine ev_goto (tgt := 4) dX8_cues_26 (by decide) ?_
    exact hK _ _ ⟨rfl, vz_eq (by rw [fold_take hw]; omega), vz_eq (by omega), trivial⟩ rfl
  · subst eh
    simp only [List.take_length]
    refine ev_iload_n dX8_cues_4 rfl ?_
    refine ev_aload_n dX8_cues_5 rfl ?_
    refine ev_callNE dX8_cues_6 (nv_X8_9 hG) fe_partCount (ndC.cls H) rfl rfl (n_pc H (d := 1) (Nat.le_refl _)) (by omega) (Nat.le_of_ble_eq_true rfl) ?_
    refine ev_icmp_geZ (tgt := 29) dX8_cues_9 (by decide) (by omega) (by omega) (fun c9 => ?_) (fun c9 => by omega)
    refine ev_iload_n dX8_cues_29 rfl ?_
    refine ev_ireturn dX8_cues_30 rfl ?_
    exact ⟨rfl, rfl⟩
end N1S

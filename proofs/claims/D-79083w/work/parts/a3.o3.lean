/-! THE COMPONENT: Several.write (printed by gen) -/
section O3S
variable {g : GB} {M : MI} {d c k : Nat} {h : HM}
def opS (e : Bool) : String := match e with
  | true => "("
  | false => ""
def clS (e : Bool) : String := match e with
  | true => ")"
  | false => ""
/-- a part, enclosed or not -/
def wpW (e : Bool) (r : List (List Nat)) : List (List Nat) := ((([] : List (List Nat)) ++ [strB (opS e)]) ++ r) ++ [strB (clS e)]
def spS (lay : Bool) (i : Nat) : String := if i = 0 then "" else if lay then "|" else ";"
def encS (lay : Bool) (κ : Nat) : Bool := decide (7 ≤ κ) || (decide (κ = 6) && lay)
def sevW (lay : Bool) : Nat → List (Nat × List (List Nat)) → List (List Nat)
  | _, [] => []
  | i, p :: ps => ([strB (spS lay i)] ++ wpW (encS lay p.1) p.2) ++ sevW lay (i + 1) ps
theorem sevW_app (lay : Bool) (a b : List (Nat × List (List Nat))) : ∀ i : Nat, sevW lay i (a ++ b) = sevW lay i a ++ sevW lay (i + a.length) b := by
  induction a with
  | nil => intro i; rfl
  | cons p a ih =>
    intro i
    show ([strB (spS lay i)] ++ wpW (encS lay p.1) p.2) ++ sevW lay (i + 1) (a ++ b) = (([strB (spS lay i)] ++ wpW (encS lay p.1) p.2) ++ sevW lay (i + 1) a) ++ sevW lay (i + (a.length + 1)) b
    rw [ih, List.append_assoc (_ ++ _), show i + 1 + a.length = i + (a.length + 1) by omega]
theorem sevW_snoc (lay : Bool) {ps : List (Nat × List (List Nat))} {i κ : Nat} {rk : List (List Nat)} (h : ps[i]? = some (κ, rk)) : sevW lay 0 (ps.take (i + 1)) = (sevW lay 0 (ps.take i) ++ [strB (spS lay i)]) ++ wpW (encS lay κ) rk := by
  have hi := (List.getElem?_eq_some_iff.mp h).1
  rw [take_snoc h, sevW_app, List.length_take, Nat.min_eq_left (by omega), Nat.zero_add]
  show _ ++ (([strB (spS lay i)] ++ wpW (encS lay κ) rk) ++ []) = _
  rw [List.append_nil, List.append_assoc]
theorem k_wpB {a b v cap B q κ D : Nat} {t : List Nat} {I : HM} {rk : List (List Nat)} (e : Bool) (hG : GKx g) (hI : Sub I h) (K : KC g h) (H : SBh g h b v cap t) (hIb : I b = none) (hIv : I v = none) (hkc : ∃ fs, I q = some (.inr (nCi κ, fs))) (hk : Wk g I D κ q rk) (hB : capF (wpW e rk) cap t.length ≤ B) (hB4 : B < 400000) (hd : 6 ≤ d ∧ D + 1 ≤ d) : Kc g mX8_writePart d (B - cap) (2 * (B - cap)) [.ref a, .ref b, .ref q, vz (bI e)] h (rR (fun r h' => r = none ∧ Wr g h b v cap t (wpW e rk) h')) := by
  cases e with
  | true => exact k_wpT hG hI K H hIb hIv hkc hk hB hB4 hd
  | false => exact k_wpF hG hI K H hIb hIv hkc hk hB hB4 hd
set_option maxRecDepth 100000 in
set_option maxHeartbeats 4000000 in
theorem k_wrX16 {a b v cap B pl va cp D : Nat} {t as : List Nat} {mc : Int} {lay : Bool} {I : HM} {f : Nat → Option Nat} {ps : List (Nat × List (List Nat))} (hG : GKx g) (hI : Sub I h) (K : KC g h) (H : SBh g h b v cap t) (hIb : I b = none) (hIv : I v = none) (hIa : I a = some (.inr (12, [vz (bI lay), .ref pl]))) (hIpl : I pl = some (.inr (29, [vz mc, .ref va, vz ((as.length : Nat) : Int)]))) (hIva : I va = some (.inl (9, (cp, .inr (.inr (.inr (.inr (f)))))))) (hf : ∀ i : Nat, i < as.length → f i = as[i]?) (hcp : as.length ≤ cp) (hl : as.length < 1000000) (hpl' : ps.length = as.length) (hps : ∀ (i q κ : Nat) (rk : List (List Nat)), as[i]? = some q → ps[i]? = some (κ, rk) → (∃ fs, I q = some (.inr (nCi κ, fs))) ∧ Wk g I D κ q rk ∧ (6 ≤ κ → ∃ pl2 : Nat, I q = some (.inr (12, [vz (if κ = 6 then 1 else 0), .ref pl2])))) (hB : capF (sevW lay 0 ps) cap t.length ≤ B) (hB4 : B < 400000) (hd : D + 8 ≤ d) : Kc g mX16_write d (B - cap) (2 * (B - cap)) [.ref a, .ref b] h (rR (fun r h' => r = none ∧ Wr g h b v cap t (sevW lay 0 ps) h')) := by
  refine Kc.of (ls := [some (.ref a), some (.ref b), none, none, none, none]) (by decide +kernel) (Nat.le_of_ble_eq_true rfl) rfl ?_
  have ha := hI _ _ hIa
  have hpl := hI _ _ hIpl
  have hva := hI _ _ hIva
  refine ev_iconstZ dX16_write_0 ?_
  refine ev_istore_n dX16_write_1 (by decide) rfl ?_
  dsimp only [List.set]
  refine ev_forB as.length (fun i => B - capF (sevW lay 0 (ps.take i)) cap t.length) (fun i => 2 * (B - capF (sevW lay 0 (ps.take i)) cap t.length)) (fun i h2 => ∃ w2, SBh g h2 b w2 (capF (sevW lay 0 (ps.take i)) cap t.length) (t ++ (sevW lay 0 (ps.take i)).flatten) ∧ (w2 = v ∨ h w2 = none) ∧ Fr g h h2 [b, v]) (fun i => [some (.ref a), some (.ref b), some (vz ((i : Nat) : Int)), none, none, none]) 0 (Nat.zero_le _) ⟨v, by show SBh g h b v (capF ([] : List (List Nat)) cap t.length) (t ++ ([] : List (List Nat)).flatten); rw [List.flatten_nil, List.append_nil]; exact H, Or.inl rfl, Fr.refl _ _⟩ (Nat.le_refl _) (Nat.le_refl _) ⟨rfl, rfl, rfl, trivial⟩ (fun i h2 _ hi hP hN => ?_) (fun h2 hP => ?_)
  · obtain ⟨w2, H2, o2, F2⟩ := hP
    obtain ⟨q, hqi⟩ : ∃ q, as[i]? = some q := ⟨_, List.getElem?_eq_getElem hi⟩
    obtain ⟨⟨κ, rk⟩, hpi⟩ : ∃ p, ps[i]? = some p := ⟨_, List.getElem?_eq_getElem (by omega)⟩
    obtain ⟨hkc, hk, hps6⟩ := hps i q κ rk hqi hpi
    have eR := sevW_snoc lay hpi
    have bR : capF (((sevW lay 0 (ps.take i)) ++ [strB (spS lay i)]) ++ wpW (encS lay κ) rk) cap t.length ≤ B := by
      rw [← eR]
      have e4 : sevW lay 0 ps = (sevW lay 0 (ps.take (i + 1))) ++ sevW lay (0 + (ps.take (i + 1)).length) (ps.drop (i + 1)) := by rw [← sevW_app, List.take_append_drop]
      rw [e4] at hB; exact Nat.le_trans (capF_pre _ _ _ _) hB
    have bR1 := Nat.le_trans (capF_pre ((sevW lay 0 (ps.take i)) ++ [strB (spS lay i)]) _ cap t.length) bR
    have ha2 := F2.kp ha (fun _ => nin_sb hIa hIb hIv)
    have hpl2 := F2.kp hpl (fun _ => nin_sb hIpl hIb hIv)
    have hva2 := F2.kp hva (fun _ => nin_sb hIva hIb hIv)
    have T86 : ∀ (e : Bool) (h3 : HM) (w3 : Nat), e = encS lay κ → SBh g h3 b w3 (capF ((sevW lay 0 (ps.take i)) ++ [strB (spS lay i)]) cap t.length) (t ++ ((sevW lay 0 (ps.take i)) ++ [strB (spS lay i)]).flatten) → (w3 = v ∨ h w3 = none) → Fr g h h3 [b, v] → Ev g mX16_write d (B - capF ((sevW lay 0 (ps.take i)) ++ [strB (spS lay i)]) cap t.length) (2 * (B - capF ((sevW lay 0 (ps.take i)) ++ [strB (spS lay i)]) cap t.length)) (rR (fun r h' => r = none ∧ Wr g h b v cap t (sevW lay 0 ps) h')) 86 [some (.ref a), some (.ref b), some (vz ((i : Nat) : Int)), none, none, none] [vz (bI e)] h3 := by
      intro e h3 w3 he H3 o3 F3
      have bR2 : capF (((sevW lay 0 (ps.take i)) ++ [strB (spS lay i)]) ++ wpW e rk) cap t.length ≤ B := by rw [he]; exact bR
      have ha3 := F3.kp ha (fun _ => nin_sb hIa hIb hIv)
      have hpl3 := F3.kp hpl (fun _ => nin_sb hIpl hIb hIv)
      have hva3 := F3.kp hva (fun _ => nin_sb hIva hIb hIv)
      refine ev_istore_n dX16_write_86 (by decide) rfl ?_
      dsimp only [List.set]
      refine ev_aload_n dX16_write_87 rfl ?_
      refine ev_aload_n dX16_write_88 rfl ?_
      refine ev_aload_n dX16_write_89 rfl ?_
      refine ev_getf dX16_write_90 gf_X16_15_X16 ha3 rfl ?_
      refine ev_iload_n dX16_write_93 rfl ?_
      refine ev_callVE dX16_write_94 cv_X16_25_J26 ce_J26_get hpl3 rfl rfl rfl (al_get hpl3 hva3 (by omega) (by omega) (by rw [Int.toNat_natCast, hf i (by omega), hqi])) (by omega) (Nat.le_of_ble_eq_true rfl) ?_
      refine ev_castN dX16_write_97 q908 (hkc.imp (fun fs e => sub_sb hI F3 hIb hIv _ _ e)) ?_
      refine ev_iload_n dX16_write_100 rfl ?_
      have l1_1 := capF_le (wpW e rk) (capF ((sevW lay 0 (ps.take i)) ++ [strB (spS lay i)]) cap t.length) (t ++ ((sevW lay 0 (ps.take i)) ++ [strB (spS lay i)]).flatten).length
      have l2_1 : capF (((sevW lay 0 (ps.take i)) ++ [strB (spS lay i)]) ++ (wpW e rk)) cap t.length = capF (wpW e rk) (capF ((sevW lay 0 (ps.take i)) ++ [strB (spS lay i)]) cap t.length) (t ++ ((sevW lay 0 (ps.take i)) ++ [strB (spS lay i)]).flatten).length := by rw [capF_app, List.length_append]
      refine ev_callVR dX16_write_101 cv_X16_88_X16 ce_X8_writePart ha3 rfl rfl rfl (k_wpB (h := h3) (d := D + 7) (B := capF (((sevW lay 0 (ps.take i)) ++ [strB (spS lay i)]) ++ (wpW e rk)) cap t.length) e hG (sub_sb hI F3 hIb hIv) (K.fr F3) H3 hIb (sb_none hI hIv o3) hkc hk (by omega) (by omega) (by omega)) (by omega) (by omega) (by omega) (Nat.le_of_ble_eq_true rfl) (fun v1 hw_1 P1 => ?_)
      obtain ⟨rfl, W1⟩ := P1
      obtain ⟨w1, H1, o1, F1⟩ := Wr.cat o3 F3 W1
      refine Ev.le (c' := B - capF (((sevW lay 0 (ps.take i)) ++ [strB (spS lay i)]) ++ (wpW e rk)) cap t.length) (k' := 2 * (B - capF (((sevW lay 0 (ps.take i)) ++ [strB (spS lay i)]) ++ (wpW e rk)) cap t.length)) (by omega) (by omega) ?_
      have ha3_2 := F1.kp ha (fun _ => nin_sb hIa hIb hIv)
      have hpl3_3 := F1.kp hpl (fun _ => nin_sb hIpl hIb hIv)
      have hva3_4 := F1.kp hva (fun _ => nin_sb hIva hIb hIv)
      refine ev_iincZ dX16_write_104 rfl (by decide) rfl ?_
      dsimp only [List.set]
      refine ev_goto (tgt := 2) dX16_write_107 (by decide) ?_
      exact hN _ _ _ _ (by rw [eR, ← he]; exact Nat.le_refl _) (by rw [eR, ← he]; exact Nat.le_refl _) (by repeat' first | exact rfl | exact trivial | exact vz_eq (by omega) | refine And.intro ?_ ?_) ⟨_, by rw [eR, ← he]; exact H1, o1, F1⟩
    have T37 : ∀ (j n ix : Nat) (C : String), srL[j]? = some (C, n, spS lay i, ix) → Ev g mX16_write d (B - capF (sevW lay 0 (ps.take i)) cap t.length) (2 * (B - capF (sevW lay 0 (ps.take i)) cap t.length)) (rR (fun r h' => r = none ∧ Wr g h b v cap t (sevW lay 0 ps) h')) 37 [some (.ref a), some (.ref b), some (vz ((i : Nat) : Int)), none, none, none] [.ref (g.2.2.2.2 ix), .ref b] h2 := by
      intro j n ix C hqs
      obtain ⟨A1, haw1, -⟩ := id H2
      have l1_1 := capF_le [strB (spS lay i)] (capF (sevW lay 0 (ps.take i)) cap t.length) (t ++ (sevW lay 0 (ps.take i)).flatten).length
      have l4_1 := capF_m (strB (spS lay i)) (capF (sevW lay 0 (ps.take i)) cap t.length) (t ++ (sevW lay 0 (ps.take i)).flatten).length
      have l2_1 : capF ((sevW lay 0 (ps.take i)) ++ [strB (spS lay i)]) cap t.length = capF [strB (spS lay i)] (capF (sevW lay 0 (ps.take i)) cap t.length) (t ++ (sevW lay 0 (ps.take i)).flatten).length := by rw [capF_app, List.length_append]
      refine ev_callVR dX16_write_37 cv_X16_82_J6 ce_J6_append haw1 rfl rfl rfl (w_con hG (K.fr F2) H2 hqs ⟨by omega, by omega⟩) (by omega) (by omega) (by omega) (Nat.le_of_ble_eq_true rfl) (fun v1 hw_1 P1 => ?_)
      obtain ⟨rfl, W1⟩ := P1
      obtain ⟨w1, H1, o1, F1⟩ := Wr.cat o2 F2 W1
      refine Ev.le (c' := B - capF ((sevW lay 0 (ps.take i)) ++ [strB (spS lay i)]) cap t.length) (k' := 2 * (B - capF ((sevW lay 0 (ps.take i)) ++ [strB (spS lay i)]) cap t.length)) (by omega) (by omega) ?_
      have ha2_2 := F1.kp ha (fun _ => nin_sb hIa hIb hIv)
      have hpl2_3 := F1.kp hpl (fun _ => nin_sb hIpl hIb hIv)
      have hva2_4 := F1.kp hva (fun _ => nin_sb hIva hIb hIv)
      refine ev_pop dX16_write_40 rfl ?_
      refine ev_aload_n dX16_write_41 rfl ?_
      refine ev_getf dX16_write_42 gf_X16_15_X16 ha2_2 rfl ?_
      refine ev_iload_n dX16_write_45 rfl ?_
      refine ev_callVE dX16_write_46 cv_X16_25_J26 ce_J26_get hpl2_3 rfl rfl rfl (al_get hpl2_3 hva2_4 (by omega) (by omega) (by rw [Int.toNat_natCast, hf i (by omega), hqi])) (by omega) (Nat.le_of_ble_eq_true rfl) ?_
      refine ev_astore dX16_write_49 (by decide) rfl ?_
      dsimp only [List.set]
      refine ev_aload dX16_write_51 rfl ?_
      refine ev_instSev hG dX16_write_53 q1313 (hkc.imp (fun fs e => sub_sb hI F1 hIb hIv _ _ e)) ?_
      refine ev_if_eqZ (tgt := 85) dX16_write_56 (by decide) (by split <;> omega) (fun c56 => ?_) (fun c56 => ?_)
      · have h6 : ¬ 6 ≤ κ := fun q6 => by rw [if_pos q6] at c56; omega
        refine ev_iconstZ dX16_write_85 ?_
        exact Ev.forget (T86 false _ _ (by unfold encS; simp [*]; try omega) H1 o1 F1) (by repeat' first | exact rfl | exact trivial | exact vz_eq (by omega) | refine And.intro ?_ ?_)
      · have h6 : 6 ≤ κ := Classical.byContradiction fun q6 => c56 (if_neg q6)
        obtain ⟨pl2, hIq⟩ := hps6 h6
        have hq0 := hI _ _ hIq
        have hq9 := (F1).kp hq0 (fun _ => nin_sb hIq hIb hIv)
        refine ev_aload dX16_write_59 rfl ?_
        refine ev_castY dX16_write_61 q1313 hq9 rfl (Or.inl rfl) ?_
        refine ev_astore dX16_write_64 (by decide) rfl ?_
        dsimp only [List.set]
        refine ev_aload dX16_write_66 rfl ?_
        refine ev_getf dX16_write_68 gf_X16_9_X16 hq9 rfl ?_
        refine ev_if_eqZ (tgt := 81) dX16_write_71 (by decide) (by split <;> omega) (fun c71 => ?_) (fun c71 => ?_)
        · have h7 : 7 ≤ κ := by by_cases q6 : κ = 6 <;> simp [q6] at c71 <;> omega
          refine ev_iconstZ dX16_write_81 ?_
          refine ev_goto (tgt := 86) dX16_write_82 (by decide) ?_
          exact Ev.forget (T86 true _ _ (by unfold encS; simp [*]) H1 o1 F1) (by repeat' first | exact rfl | exact trivial | exact vz_eq (by omega) | refine And.intro ?_ ?_)
        · have h7 : κ = 6 := Classical.byContradiction fun q6 => c71 (if_neg q6)
          refine ev_aload_n dX16_write_74 rfl ?_
          refine ev_getf dX16_write_75 gf_X16_9_X16 ha2_2 rfl ?_
          refine ev_if_eqB (tgt := 85) dX16_write_78 (by decide) (fun c78 => ?_) (fun c78 => ?_)
          · have hlay : lay = false := c78
            refine ev_iconstZ dX16_write_85 ?_
            exact Ev.forget (T86 false _ _ (by unfold encS; simp [*]; try omega) H1 o1 F1) (by repeat' first | exact rfl | exact trivial | exact vz_eq (by omega) | refine And.intro ?_ ?_)
          · have hlay : lay = true := c78
            refine ev_iconstZ dX16_write_81 ?_
            refine ev_goto (tgt := 86) dX16_write_82 (by decide) ?_
            exact Ev.forget (T86 true _ _ (by unfold encS; simp [*]) H1 o1 F1) (by repeat' first | exact rfl | exact trivial | exact vz_eq (by omega) | refine And.intro ?_ ?_)
    refine ev_iload_n dX16_write_2 rfl ?_
    refine ev_aload_n dX16_write_3 rfl ?_
    refine ev_getf dX16_write_4 gf_X16_15_X16 ha2 rfl ?_
    refine ev_callVE dX16_write_7 cv_X16_19_J26 ce_J26_size hpl2 rfl rfl rfl (al_size hpl2) (by omega) (Nat.le_of_ble_eq_true rfl) ?_
    refine ev_icmp_geZ (tgt := 110) dX16_write_10 (by decide) (by omega) (by omega) (fun c10 => by omega) (fun c10 => ?_)
    refine ev_aload_n dX16_write_13 rfl ?_
    refine ev_iload_n dX16_write_14 rfl ?_
    refine ev_if_neZ (tgt := 23) dX16_write_15 (by decide) (by omega) (fun c15 => ?_) (fun c15 => ?_)
    · have hi0 : ¬ i = 0 := by omega
      refine ev_aload_n dX16_write_23 rfl ?_
      refine ev_getf dX16_write_24 gf_X16_9_X16 ha2 rfl ?_
      refine ev_if_eqB (tgt := 35) dX16_write_27 (by decide) (fun c27 => ?_) (fun c27 => ?_)
      · have hlay : lay = false := c27
        refine ev_ldcS (i := 17) hG dX16_write_35 rfl ?_
        have hsp : spS lay i = ";" := by unfold spS; rw [if_neg hi0, hlay]; rfl
        exact T37 17 _ _ _ (by rw [hsp]; rfl)
      · have hlay : lay = true := c27
        refine ev_ldcS (i := 16) hG dX16_write_30 rfl ?_
        refine ev_goto (tgt := 37) dX16_write_32 (by decide) ?_
        have hsp : spS lay i = "|" := by unfold spS; rw [if_neg hi0, hlay]; rfl
        exact T37 16 _ _ _ (by rw [hsp]; rfl)
    · have hi0 : i = 0 := by omega
      refine ev_ldcS (i := 15) hG dX16_write_18 rfl ?_
      refine ev_goto (tgt := 37) dX16_write_20 (by decide) ?_
      have hsp : spS lay i = "" := by unfold spS; rw [if_pos hi0]
      exact T37 15 _ _ _ (by rw [hsp]; rfl)
  · obtain ⟨w2, H2, o2, F2⟩ := hP
    rw [← hpl', List.take_length] at H2
    have ha2 := F2.kp ha (fun _ => nin_sb hIa hIb hIv)
    have hpl2 := F2.kp hpl (fun _ => nin_sb hIpl hIb hIv)
    have hva2 := F2.kp hva (fun _ => nin_sb hIva hIb hIv)
    refine ev_iload_n dX16_write_2 rfl ?_
    refine ev_aload_n dX16_write_3 rfl ?_
    refine ev_getf dX16_write_4 gf_X16_15_X16 ha2 rfl ?_
    refine ev_callVE dX16_write_7 cv_X16_19_J26 ce_J26_size hpl2 rfl rfl rfl (al_size hpl2) (by omega) (Nat.le_of_ble_eq_true rfl) ?_
    refine ev_icmp_geZ (tgt := 110) dX16_write_10 (by decide) (by omega) (by omega) (fun c10 => ?_) (fun c10 => by omega)
    refine ev_return dX16_write_110 rfl ?_
    exact ⟨_, rfl, rfl, w2, H2, o2, F2⟩
end O3S

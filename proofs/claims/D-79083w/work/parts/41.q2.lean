/-! the reference: problems (printed by gen) -/
section Q2
variable {g : GB} {M : MI} {d c k : Nat} {Q : RS → HM → Prop} {pc : Nat} {ls : List (Option Value)} {st : List Value} {h : HM} {a b : Int} {ad : Nat → Nat} {o : Nat} {h0 : HM} {s : MSt}
set_option maxRecDepth 100000 in
set_option maxHeartbeats 4000000 in
theorem k_isProblem {D : Dn} {P : Pt} (hM : MX g ad o h0 s h) (hD : dnAt (s.2 1) D) (hO : dnOk D) (hp : plAt s D P) (hk : knAt s (.ok P)) {k1 q a1 a2 : Nat} (h1 : k1 ≤ P.1.1) (h2 : 1 ≤ q ∧ q ≤ 4) (h3 : a1 < 8) (h4 : a2 < 8) (hd : 3 ≤ d) : Kc g mX3_isProblem d 0 0 [.ref o, vz (k1 : Int), vz (q : Int), vz (a1 : Int), vz (a2 : Int)] h (mR g ad o h0 (some (vz (bI (isPr D P k1 q a1 a2)))) s) := by
  refine Kc.of (ls := [some (.ref o), some (vz (k1 : Int)), some (vz (q : Int)), some (vz (a1 : Int)), some (vz (a2 : Int))]) (by decide +kernel) (Nat.le_of_ble_eq_true rfl) rfl ?_
  have hsb := hk.ok.2.2.1
  have hub := hk.ok.2.2.2.1
  have k18 := hk.ok.2.1.2.1
  have q1 := pos_le hO P h3 (show k1 ≤ 100 by omega)
  have hc9 := hO.2.1
  have hr9 := hO.2.2.2.1
  have hq : q = 1 ∨ q = 2 ∨ q = 3 ∨ q = 4 := by omega
  rcases hq with rfl | rfl | rfl | rfl
  · refine ev_iload_n dX3_isProblem_0 rfl ?_
    refine ev_iconstZ dX3_isProblem_1 ?_
    refine ev_icmp_neZ (tgt := 35) dX3_isProblem_2 (by decide) (by decide) (by decide) (fun _ => ?_) (fun c => absurd c (by decide))
    refine ev_aload_n dX3_isProblem_35 rfl ?_
    refine ev_iload_n dX3_isProblem_36 rfl ?_
    refine mx_call dX3_isProblem_37 cv_X3_336_X3 ce_X3_takesPart hM rfl rfl (k_takesPart (D := D) (e := a1) (d := d - 1) hM hD hO (by omega) (by omega)) (by omega) (Nat.le_of_ble_eq_true rfl) (fun h hM => ?_)
    refine ev_if_neB (tgt := 45) dX3_isProblem_40 (by decide) (fun c40 => ?_) (fun c40 => ?_)
    · refine ev_iload_n dX3_isProblem_45 rfl ?_
      refine ev_iconstZ dX3_isProblem_46 ?_
      refine ev_icmp_neZ (tgt := 108) dX3_isProblem_47 (by decide) (by decide) (by decide) (fun c => absurd rfl c) (fun _ => ?_)
      refine ev_aload_n dX3_isProblem_50 rfl ?_
      refine mx_getA hM dX3_isProblem_51 gf_X3_83_X3 rfl ?_
      refine ev_bipushZ dX3_isProblem_54 rfl ?_
      refine ev_iload_n dX3_isProblem_56 rfl ?_
      refine ev_imulZ dX3_isProblem_57 ?_
      refine ev_iload_n dX3_isProblem_58 rfl ?_
      refine ev_iaddZ dX3_isProblem_59 ?_
      refine ev_to (b := ((100 * a1 + k1 : Nat) : Int)) (by omega) ?_
      refine mx_iald hM rfl dX3_isProblem_60 (by omega) ?_
      try simp only [uS_1, uA_1, uF_1, uS_2, uA_2a, uF_2a, Nat.reduceEqDiff, reduceIte, Int.reduceToNat, Int.toNat_natCast]
      rw [(hp a1 k1 h3 h1).1]
      refine ev_iconstZ dX3_isProblem_61 ?_
      refine ev_aload_n dX3_isProblem_62 rfl ?_
      refine mx_getA hM dX3_isProblem_63 gf_X3_7_X3 rfl ?_
      refine ev_iconstZ dX3_isProblem_66 ?_
      refine mx_iald hM rfl dX3_isProblem_67 (by omega) ?_
      try simp only [uS_1, uA_1, uF_1, uS_2, uA_2a, uF_2a, Nat.reduceEqDiff, reduceIte, Int.reduceToNat, Int.toNat_natCast]
      rw [hD.1]
      refine ev_iconstZ dX3_isProblem_68 ?_
      refine ev_isubZ dX3_isProblem_69 ?_
      refine ev_callSE dX3_isProblem_70 cs_X3_121 ce_X3_in rfl rfl (k_in (d := d - 1) (by omega) (by omega)) (by omega) (Nat.le_of_ble_eq_true rfl) ?_
      refine ev_if_eqB (tgt := 102) dX3_isProblem_73 (by decide) (fun c73 => ?_) (fun c73 => ?_)
      · refine ev_iconstZ dX3_isProblem_102 ?_
        refine ev_goto (tgt := 107) dX3_isProblem_103 (by decide) ?_
        refine ev_zreturn dX3_isProblem_107 rfl (by decide) ?_
        refine ⟨?_, hM⟩
        first
          | (simp [isPr, bI, c40]; done)
          | (unfold isPr; rw [if_neg (by decide), if_pos rfl, c40, c73]; rfl)
          | (unfold isPr; rw [if_neg (by decide), if_pos rfl, c40, c73, c99]; rfl)
      · refine ev_aload_n dX3_isProblem_76 rfl ?_
        refine mx_getA hM dX3_isProblem_77 gf_X3_86_X3 rfl ?_
        refine ev_bipushZ dX3_isProblem_80 rfl ?_
        refine ev_iload_n dX3_isProblem_82 rfl ?_
        refine ev_imulZ dX3_isProblem_83 ?_
        refine ev_iload_n dX3_isProblem_84 rfl ?_
        refine ev_iaddZ dX3_isProblem_85 ?_
        refine ev_to (b := ((100 * a1 + k1 : Nat) : Int)) (by omega) ?_
        refine mx_iald hM rfl dX3_isProblem_86 (by omega) ?_
        try simp only [uS_1, uA_1, uF_1, uS_2, uA_2a, uF_2a, Nat.reduceEqDiff, reduceIte, Int.reduceToNat, Int.toNat_natCast]
        rw [(hp a1 k1 h3 h1).2]
        refine ev_iconstZ dX3_isProblem_87 ?_
        refine ev_aload_n dX3_isProblem_88 rfl ?_
        refine mx_getA hM dX3_isProblem_89 gf_X3_7_X3 rfl ?_
        refine ev_iconstZ dX3_isProblem_92 ?_
        refine mx_iald hM rfl dX3_isProblem_93 (by omega) ?_
        try simp only [uS_1, uA_1, uF_1, uS_2, uA_2a, uF_2a, Nat.reduceEqDiff, reduceIte, Int.reduceToNat, Int.toNat_natCast]
        rw [hD.2.1]
        refine ev_iconstZ dX3_isProblem_94 ?_
        refine ev_isubZ dX3_isProblem_95 ?_
        refine ev_callSE dX3_isProblem_96 cs_X3_121 ce_X3_in rfl rfl (k_in (d := d - 1) (by omega) (by omega)) (by omega) (Nat.le_of_ble_eq_true rfl) ?_
        refine ev_if_neB (tgt := 106) dX3_isProblem_99 (by decide) (fun c99 => ?_) (fun c99 => ?_)
        · refine ev_iconstZ dX3_isProblem_106 ?_
          refine ev_zreturn dX3_isProblem_107 rfl (by decide) ?_
          refine ⟨?_, hM⟩
          first
            | (simp [isPr, bI, c40]; done)
            | (unfold isPr; rw [if_neg (by decide), if_pos rfl, c40, c73]; rfl)
            | (unfold isPr; rw [if_neg (by decide), if_pos rfl, c40, c73, c99]; rfl)
        · refine ev_iconstZ dX3_isProblem_102 ?_
          refine ev_goto (tgt := 107) dX3_isProblem_103 (by decide) ?_
          refine ev_zreturn dX3_isProblem_107 rfl (by decide) ?_
          refine ⟨?_, hM⟩
          first
            | (simp [isPr, bI, c40]; done)
            | (unfold isPr; rw [if_neg (by decide), if_pos rfl, c40, c73]; rfl)
            | (unfold isPr; rw [if_neg (by decide), if_pos rfl, c40, c73, c99]; rfl)
    · refine ev_iconstZ dX3_isProblem_43 ?_
      refine ev_zreturn dX3_isProblem_44 rfl (by decide) ?_
      refine ⟨?_, hM⟩
      first
        | (simp [isPr, bI, c40]; done)
        | (unfold isPr; rw [if_neg (by decide), if_pos rfl, c40, c73]; rfl)
        | (unfold isPr; rw [if_neg (by decide), if_pos rfl, c40, c73, c99]; rfl)
  · refine ev_iload_n dX3_isProblem_0 rfl ?_
    refine ev_iconstZ dX3_isProblem_1 ?_
    refine ev_icmp_neZ (tgt := 35) dX3_isProblem_2 (by decide) (by decide) (by decide) (fun _ => ?_) (fun c => absurd c (by decide))
    refine ev_aload_n dX3_isProblem_35 rfl ?_
    refine ev_iload_n dX3_isProblem_36 rfl ?_
    refine mx_call dX3_isProblem_37 cv_X3_336_X3 ce_X3_takesPart hM rfl rfl (k_takesPart (D := D) (e := a1) (d := d - 1) hM hD hO (by omega) (by omega)) (by omega) (Nat.le_of_ble_eq_true rfl) (fun h hM => ?_)
    refine ev_if_neB (tgt := 45) dX3_isProblem_40 (by decide) (fun c40 => ?_) (fun c40 => ?_)
    · refine ev_iload_n dX3_isProblem_45 rfl ?_
      refine ev_iconstZ dX3_isProblem_46 ?_
      refine ev_icmp_neZ (tgt := 108) dX3_isProblem_47 (by decide) (by decide) (by decide) (fun _ => ?_) (fun c => absurd c (by decide))
      refine ev_aload_n dX3_isProblem_108 rfl ?_
      refine ev_iload dX3_isProblem_109 rfl ?_
      refine mx_call dX3_isProblem_111 cv_X3_336_X3 ce_X3_takesPart hM rfl rfl (k_takesPart (D := D) (e := a2) (d := d - 1) hM hD hO (by omega) (by omega)) (by omega) (Nat.le_of_ble_eq_true rfl) (fun h hM => ?_)
      refine ev_if_neB (tgt := 119) dX3_isProblem_114 (by decide) (fun c114 => ?_) (fun c114 => ?_)
      · refine ev_iload_n dX3_isProblem_119 rfl ?_
        refine ev_iconstZ dX3_isProblem_120 ?_
        refine ev_icmp_neZ (tgt := 134) dX3_isProblem_121 (by decide) (by decide) (by decide) (fun c => absurd rfl c) (fun _ => ?_)
        refine ev_aload_n dX3_isProblem_124 rfl ?_
        refine ev_iload_n dX3_isProblem_125 rfl ?_
        refine ev_iload_n dX3_isProblem_126 rfl ?_
        refine ev_iload dX3_isProblem_127 rfl ?_
        refine ev_iload_n dX3_isProblem_129 rfl ?_
        refine mx_call dX3_isProblem_130 cv_X3_345_X3 ce_X3_areSame hM rfl rfl (k_areSame hM hO hp hsb (a1 := a1) (k1 := k1) (a2 := a2) (k2 := k1) h3 (by omega) h4 (by omega) (d := d - 1) (by omega)) (by omega) (Nat.le_of_ble_eq_true rfl) (fun h hM => ?_)
        refine ev_zreturn dX3_isProblem_133 rfl (by first | decide | exact narrow_zb (bI_o _)) ?_
        refine ⟨?_, hM⟩
        first
          | (simp [isPr, bI, c40]; done)
          | (simp [isPr, bI, c40, c114]; done)
      · refine ev_iconstZ dX3_isProblem_117 ?_
        refine ev_zreturn dX3_isProblem_118 rfl (by first | decide | exact narrow_zb (bI_o _)) ?_
        refine ⟨?_, hM⟩
        first
          | (simp [isPr, bI, c40]; done)
          | (simp [isPr, bI, c40, c114]; done)
    · refine ev_iconstZ dX3_isProblem_43 ?_
      refine ev_zreturn dX3_isProblem_44 rfl (by first | decide | exact narrow_zb (bI_o _)) ?_
      refine ⟨?_, hM⟩
      first
        | (simp [isPr, bI, c40]; done)
        | (simp [isPr, bI, c40, c114]; done)
  · refine ev_iload_n dX3_isProblem_0 rfl ?_
    refine ev_iconstZ dX3_isProblem_1 ?_
    refine ev_icmp_neZ (tgt := 35) dX3_isProblem_2 (by decide) (by decide) (by decide) (fun _ => ?_) (fun c => absurd c (by decide))
    refine ev_aload_n dX3_isProblem_35 rfl ?_
    refine ev_iload_n dX3_isProblem_36 rfl ?_
    refine mx_call dX3_isProblem_37 cv_X3_336_X3 ce_X3_takesPart hM rfl rfl (k_takesPart (D := D) (e := a1) (d := d - 1) hM hD hO (by omega) (by omega)) (by omega) (Nat.le_of_ble_eq_true rfl) (fun h hM => ?_)
    refine ev_if_neB (tgt := 45) dX3_isProblem_40 (by decide) (fun c40 => ?_) (fun c40 => ?_)
    · refine ev_iload_n dX3_isProblem_45 rfl ?_
      refine ev_iconstZ dX3_isProblem_46 ?_
      refine ev_icmp_neZ (tgt := 108) dX3_isProblem_47 (by decide) (by decide) (by decide) (fun _ => ?_) (fun c => absurd c (by decide))
      refine ev_aload_n dX3_isProblem_108 rfl ?_
      refine ev_iload dX3_isProblem_109 rfl ?_
      refine mx_call dX3_isProblem_111 cv_X3_336_X3 ce_X3_takesPart hM rfl rfl (k_takesPart (D := D) (e := a2) (d := d - 1) hM hD hO (by omega) (by omega)) (by omega) (Nat.le_of_ble_eq_true rfl) (fun h hM => ?_)
      refine ev_if_neB (tgt := 119) dX3_isProblem_114 (by decide) (fun c114 => ?_) (fun c114 => ?_)
      · refine ev_iload_n dX3_isProblem_119 rfl ?_
        refine ev_iconstZ dX3_isProblem_120 ?_
        refine ev_icmp_neZ (tgt := 134) dX3_isProblem_121 (by decide) (by decide) (by decide) (fun _ => ?_) (fun c => absurd c (by decide))
        refine ev_iload_n dX3_isProblem_134 rfl ?_
        refine ev_if_leZ (tgt := 186) dX3_isProblem_135 (by decide) (by omega) (fun c135 => ?_) (fun c135 => ?_)
        · refine ev_iconstZ dX3_isProblem_186 ?_
          refine ev_zreturn dX3_isProblem_187 rfl (by decide) ?_
          refine ⟨?_, hM⟩
          first
            | (simp [isPr, bI, c40]; done)
            | (simp [isPr, bI, c40, c114]; done)
            | (have hk0 : k1 = 0 := by omega
               simp [isPr, bI, c40, c114, hk0]; done)
            | (have hk0 : 0 < k1 := by omega
               simp [isPr, bI, c40, c114, hk0, c151]; done)
            | (have hk0 : 0 < k1 := by omega
               simp [isPr, bI, c40, c114, hk0, c151, c165]; done)
            | (have hk0 : 0 < k1 := by omega
               simp [isPr, bI, c40, c114, hk0, c151, c165, c179]; done)
        · refine ev_aload_n dX3_isProblem_138 rfl ?_
          refine ev_iload_n dX3_isProblem_139 rfl ?_
          refine ev_iload_n dX3_isProblem_140 rfl ?_
          refine ev_iconstZ dX3_isProblem_141 ?_
          refine ev_isubZ dX3_isProblem_142 ?_
          refine ev_to (b := ((k1 - 1 : Nat) : Int)) (by omega) ?_
          refine ev_iload dX3_isProblem_143 rfl ?_
          refine ev_iload_n dX3_isProblem_145 rfl ?_
          refine ev_iconstZ dX3_isProblem_146 ?_
          refine ev_isubZ dX3_isProblem_147 ?_
          refine ev_to (b := ((k1 - 1 : Nat) : Int)) (by omega) ?_
          refine mx_call dX3_isProblem_148 cv_X3_345_X3 ce_X3_areSame hM rfl rfl (k_areSame hM hO hp hsb (a1 := a1) (k1 := (k1 - 1)) (a2 := a2) (k2 := (k1 - 1)) h3 (by omega) h4 (by omega) (d := d - 1) (by omega)) (by omega) (Nat.le_of_ble_eq_true rfl) (fun h hM => ?_)
          refine ev_if_neB (tgt := 186) dX3_isProblem_151 (by decide) (fun c151 => ?_) (fun c151 => ?_)
          · refine ev_iconstZ dX3_isProblem_186 ?_
            refine ev_zreturn dX3_isProblem_187 rfl (by decide) ?_
            refine ⟨?_, hM⟩
            first
              | (simp [isPr, bI, c40]; done)
              | (simp [isPr, bI, c40, c114]; done)
              | (have hk0 : k1 = 0 := by omega
                 simp [isPr, bI, c40, c114, hk0]; done)
              | (have hk0 : 0 < k1 := by omega
                 simp [isPr, bI, c40, c114, hk0, c151]; done)
              | (have hk0 : 0 < k1 := by omega
                 simp [isPr, bI, c40, c114, hk0, c151, c165]; done)
              | (have hk0 : 0 < k1 := by omega
                 simp [isPr, bI, c40, c114, hk0, c151, c165, c179]; done)
          · refine ev_aload_n dX3_isProblem_154 rfl ?_
            refine ev_iload_n dX3_isProblem_155 rfl ?_
            refine ev_iload_n dX3_isProblem_156 rfl ?_
            refine ev_iload dX3_isProblem_157 rfl ?_
            refine ev_iload_n dX3_isProblem_159 rfl ?_
            refine ev_iconstZ dX3_isProblem_160 ?_
            refine ev_isubZ dX3_isProblem_161 ?_
            refine ev_to (b := ((k1 - 1 : Nat) : Int)) (by omega) ?_
            refine mx_call dX3_isProblem_162 cv_X3_345_X3 ce_X3_areSame hM rfl rfl (k_areSame hM hO hp hsb (a1 := a1) (k1 := k1) (a2 := a2) (k2 := (k1 - 1)) h3 (by omega) h4 (by omega) (d := d - 1) (by omega)) (by omega) (Nat.le_of_ble_eq_true rfl) (fun h hM => ?_)
            refine ev_if_eqB (tgt := 186) dX3_isProblem_165 (by decide) (fun c165 => ?_) (fun c165 => ?_)
            · refine ev_iconstZ dX3_isProblem_186 ?_
              refine ev_zreturn dX3_isProblem_187 rfl (by decide) ?_
              refine ⟨?_, hM⟩
              first
                | (simp [isPr, bI, c40]; done)
                | (simp [isPr, bI, c40, c114]; done)
                | (have hk0 : k1 = 0 := by omega
                   simp [isPr, bI, c40, c114, hk0]; done)
                | (have hk0 : 0 < k1 := by omega
                   simp [isPr, bI, c40, c114, hk0, c151]; done)
                | (have hk0 : 0 < k1 := by omega
                   simp [isPr, bI, c40, c114, hk0, c151, c165]; done)
                | (have hk0 : 0 < k1 := by omega
                   simp [isPr, bI, c40, c114, hk0, c151, c165, c179]; done)
            · refine ev_aload_n dX3_isProblem_168 rfl ?_
              refine ev_iload_n dX3_isProblem_169 rfl ?_
              refine ev_iload_n dX3_isProblem_170 rfl ?_
              refine ev_iconstZ dX3_isProblem_171 ?_
              refine ev_isubZ dX3_isProblem_172 ?_
              refine ev_to (b := ((k1 - 1 : Nat) : Int)) (by omega) ?_
              refine ev_iload dX3_isProblem_173 rfl ?_
              refine ev_iload_n dX3_isProblem_175 rfl ?_
              refine mx_call dX3_isProblem_176 cv_X3_345_X3 ce_X3_areSame hM rfl rfl (k_areSame hM hO hp hsb (a1 := a1) (k1 := (k1 - 1)) (a2 := a2) (k2 := k1) h3 (by omega) h4 (by omega) (d := d - 1) (by omega)) (by omega) (Nat.le_of_ble_eq_true rfl) (fun h hM => ?_)
              refine ev_if_eqB (tgt := 186) dX3_isProblem_179 (by decide) (fun c179 => ?_) (fun c179 => ?_)
              · refine ev_iconstZ dX3_isProblem_186 ?_
                refine ev_zreturn dX3_isProblem_187 rfl (by decide) ?_
                refine ⟨?_, hM⟩
                first
                  | (simp [isPr, bI, c40]; done)
                  | (simp [isPr, bI, c40, c114]; done)
                  | (have hk0 : k1 = 0 := by omega
                     simp [isPr, bI, c40, c114, hk0]; done)
                  | (have hk0 : 0 < k1 := by omega
                     simp [isPr, bI, c40, c114, hk0, c151]; done)
                  | (have hk0 : 0 < k1 := by omega
                     simp [isPr, bI, c40, c114, hk0, c151, c165]; done)
                  | (have hk0 : 0 < k1 := by omega
                     simp [isPr, bI, c40, c114, hk0, c151, c165, c179]; done)
              · refine ev_iconstZ dX3_isProblem_182 ?_
                refine ev_goto (tgt := 187) dX3_isProblem_183 (by decide) ?_
                refine ev_zreturn dX3_isProblem_187 rfl (by decide) ?_
                refine ⟨?_, hM⟩
                first
                  | (simp [isPr, bI, c40]; done)
                  | (simp [isPr, bI, c40, c114]; done)
                  | (have hk0 : k1 = 0 := by omega
                     simp [isPr, bI, c40, c114, hk0]; done)
                  | (have hk0 : 0 < k1 := by omega
                     simp [isPr, bI, c40, c114, hk0, c151]; done)
                  | (have hk0 : 0 < k1 := by omega
                     simp [isPr, bI, c40, c114, hk0, c151, c165]; done)
                  | (have hk0 : 0 < k1 := by omega
                     simp [isPr, bI, c40, c114, hk0, c151, c165, c179]; done)
      · refine ev_iconstZ dX3_isProblem_117 ?_
        refine ev_zreturn dX3_isProblem_118 rfl (by decide) ?_
        refine ⟨?_, hM⟩
        first
          | (simp [isPr, bI, c40]; done)
          | (simp [isPr, bI, c40, c114]; done)
          | (have hk0 : k1 = 0 := by omega
             simp [isPr, bI, c40, c114, hk0]; done)
          | (have hk0 : 0 < k1 := by omega
             simp [isPr, bI, c40, c114, hk0, c151]; done)
          | (have hk0 : 0 < k1 := by omega
             simp [isPr, bI, c40, c114, hk0, c151, c165]; done)
          | (have hk0 : 0 < k1 := by omega
             simp [isPr, bI, c40, c114, hk0, c151, c165, c179]; done)
    · refine ev_iconstZ dX3_isProblem_43 ?_
      refine ev_zreturn dX3_isProblem_44 rfl (by decide) ?_
      refine ⟨?_, hM⟩
      first
        | (simp [isPr, bI, c40]; done)
        | (simp [isPr, bI, c40, c114]; done)
        | (have hk0 : k1 = 0 := by omega
           simp [isPr, bI, c40, c114, hk0]; done)
        | (have hk0 : 0 < k1 := by omega
           simp [isPr, bI, c40, c114, hk0, c151]; done)
        | (have hk0 : 0 < k1 := by omega
           simp [isPr, bI, c40, c114, hk0, c151, c165]; done)
        | (have hk0 : 0 < k1 := by omega
           simp [isPr, bI, c40, c114, hk0, c151, c165, c179]; done)
  · refine ev_iload_n dX3_isProblem_0 rfl ?_
    refine ev_iconstZ dX3_isProblem_1 ?_
    refine ev_icmp_neZ (tgt := 35) dX3_isProblem_2 (by decide) (by decide) (by decide) (fun c => absurd rfl c) (fun _ => ?_)
    refine ev_iload_n dX3_isProblem_5 rfl ?_
    refine ev_if_neZ (tgt := 33) dX3_isProblem_6 (by decide) (by omega) (fun c6 => ?_) (fun c6 => ?_)
    · refine ev_iconstZ dX3_isProblem_33 ?_
      refine ev_zreturn dX3_isProblem_34 rfl (by decide) ?_
      refine ⟨?_, hM⟩
      first
        | (have hk0 : ¬ k1 = 0 := by omega
           simp [isPr, bI, hk0]; done)
        | (simp [isPr, bI, hb]; done)
        | (have hk0 : k1 = 0 := by omega
           simp [isPr, bI, hb, hk0, c26]; done)
    · refine ev_aload_n dX3_isProblem_9 rfl ?_
      refine mx_getI hM dX3_isProblem_10 gf_X3_144_X3 rfl ?_
      try simp only [uS_1, uA_1, uF_1, uS_2, uA_2a, uF_2a, Nat.reduceEqDiff, reduceIte, Int.reduceToNat, Int.toNat_natCast]
      rw [k18]
      refine ev_iload_n dX3_isProblem_13 rfl ?_
      refine ev_ishrZ (u := P.1.2.1) (e := a1) dX3_isProblem_14 hub h3 ?_
      refine ev_iconstZ dX3_isProblem_15 ?_
      refine ev_iandZ (a := P.1.2.1 >>> a1) (b := 1) dX3_isProblem_16 (Nat.lt_of_le_of_lt (Nat.shiftRight_le _ _) (by omega)) (by omega) ?_
      refine ev_iconstZ dX3_isProblem_17 ?_
      refine ev_icmp_neZ (tgt := 33) dX3_isProblem_18 (by decide) (by rw [bit_e hub h3]; split <;> omega) (by omega) (fun c18 => ?_) (fun c18 => ?_)
      · have hb : P.1.2.1.testBit a1 = false := by cases q : P.1.2.1.testBit a1 with | false => rfl | true => exact absurd (by rw [bit_e hub h3, q]; rfl) c18
        refine ev_iconstZ dX3_isProblem_33 ?_
        refine ev_zreturn dX3_isProblem_34 rfl (by decide) ?_
        refine ⟨?_, hM⟩
        first
          | (have hk0 : ¬ k1 = 0 := by omega
             simp [isPr, bI, hk0]; done)
          | (simp [isPr, bI, hb]; done)
          | (have hk0 : k1 = 0 := by omega
             simp [isPr, bI, hb, hk0, c26]; done)
      · have hb : P.1.2.1.testBit a1 = true := by cases q : P.1.2.1.testBit a1 with | true => rfl | false => rw [bit_e hub h3, q] at c18; exact absurd c18 (by decide)
        refine ev_aload_n dX3_isProblem_21 rfl ?_
        refine ev_iload_n dX3_isProblem_22 rfl ?_
        refine mx_call dX3_isProblem_23 cv_X3_336_X3 ce_X3_takesPart hM rfl rfl (k_takesPart (D := D) (e := a1) (d := d - 1) hM hD hO (by omega) (by omega)) (by omega) (Nat.le_of_ble_eq_true rfl) (fun h hM => ?_)
        refine ev_if_neB (tgt := 33) dX3_isProblem_26 (by decide) (fun c26 => ?_) (fun c26 => ?_)
        · refine ev_iconstZ dX3_isProblem_33 ?_
          refine ev_zreturn dX3_isProblem_34 rfl (by decide) ?_
          refine ⟨?_, hM⟩
          first
            | (have hk0 : ¬ k1 = 0 := by omega
               simp [isPr, bI, hk0]; done)
            | (simp [isPr, bI, hb]; done)
            | (have hk0 : k1 = 0 := by omega
               simp [isPr, bI, hb, hk0, c26]; done)
        · refine ev_iconstZ dX3_isProblem_29 ?_
          refine ev_goto (tgt := 34) dX3_isProblem_30 (by decide) ?_
          refine ev_zreturn dX3_isProblem_34 rfl (by decide) ?_
          refine ⟨?_, hM⟩
          first
            | (have hk0 : ¬ k1 = 0 := by omega
               simp [isPr, bI, hk0]; done)
            | (simp [isPr, bI, hb]; done)
            | (have hk0 : k1 = 0 := by omega
               simp [isPr, bI, hb, hk0, c26]; done)
/-- a problem: count, kind, one, other -/
abbrev Pr : Type := Nat × Nat × Nat × Int
def isPair (q : Nat) : Bool := decide (q = 2) || decide (q = 3)
def lkE (D : Dn) (P : Pt) (k q d e0 : Nat) : Nat → List Pr
  | 0 => []
  | n + 1 => lkE D P k q d e0 n ++ (if isPr D P k q d (e0 + n) then [(k, q, d, if isPair q then ((e0 + n : Nat) : Int) else -1)] else [])
def lkD (D : Dn) (P : Pt) (k q : Nat) : Nat → List Pr
  | 0 => []
  | d + 1 => lkD D P k q d ++ lkE D P k q d (if isPair q then d + 1 else 0) (if isPair q then 7 - d else 1)
def srQ (D : Dn) (P : Pt) (kd k : Nat) : Nat → List Pr
  | 0 => []
  | q + 1 => srQ D P kd k q ++ (if kd = 0 ∨ kd = q + 1 then lkD D P k (q + 1) 8 else [])
def srK (D : Dn) (P : Pt) (kd : Nat) : Nat → List Pr
  | 0 => []
  | k + 1 => srK D P kd k ++ srQ D P kd k 4
/-- the problems that were found, and the one that was looked for -/
def fdAt (s : MSt) (ix : Int) (L : List Pr) : Prop := s.1 42 = L.length ∧ ∀ (i : Nat) (x : Pr), ix = i → L[i]? = some x → s.1 43 = x.1 ∧ s.1 44 = x.2.1 ∧ s.1 45 = x.2.2.1 ∧ s.1 46 = x.2.2.2
theorem fdAt.hit {s : MSt} {ix : Int} {L : List Pr} (h : fdAt s ix L) (x : Pr) (hix : s.1 42 = ix) {s' : MSt} (e : s' = uS (uS (uS (uS (uS s 43 x.1) 44 x.2.1) 45 x.2.2.1) 46 x.2.2.2) 42 (L.length + 1)) : fdAt s' ix (L ++ [x]) := by
  subst e
  refine ⟨by simp only [uS_1, Nat.reduceEqDiff, reduceIte, List.length_append, List.length_singleton]; omega, fun i y hi hy => ?_⟩
  have hiL : i = L.length := by rw [h.1] at hix; omega
  subst hiL
  rw [List.getElem?_append_right (Nat.le_refl _), Nat.sub_self] at hy
  cases hy
  exact ⟨rfl, rfl, rfl, rfl⟩
theorem fdAt.miss {s : MSt} {ix : Int} {L : List Pr} (h : fdAt s ix L) (x : Pr) (hix : ¬ s.1 42 = ix) : fdAt (uS s 42 (L.length + 1)) ix (L ++ [x]) := by
  refine ⟨by simp only [uS_1, reduceIte, List.length_append, List.length_singleton]; omega, fun i y hi hy => ?_⟩
  have hiL : i ≠ L.length := by rw [h.1] at hix; omega
  have := lt_of_getE hy
  rw [List.length_append, List.length_singleton] at this
  rw [List.getElem?_append_left (by omega)] at hy
  exact h.2 i y hi hy
theorem plAt.fr {s s' : MSt} {D : Dn} {P : Pt} {K J : List Nat} (h : plAt s D P) (hf : fr s s' K J) (hJ : [40, 41].all (fun x => ! J.contains x) = true) : plAt s' D P := by
  have key : ∀ j, j ∈ [40, 41] → s'.2 j = s.2 j := fun j hj => hf.2 j (by
    have := List.all_eq_true.mp hJ j hj
    simpa using this)
  unfold plAt
  rw [key 40 (by simp), key 41 (by simp)]
  exact h
theorem knAt.frr {s s' : MSt} {v : Me} {K J : List Nat} (h : knAt s v) (hf : fr s s' K J) (hK : [15, 16, 17, 18, 19, 20].all (fun x => ! K.contains x) = true) (hJ : [21, 22].all (fun x => ! J.contains x) = true) : knAt s' v := by
  have key : ∀ j, j ∈ [15, 16, 17, 18, 19, 20] → s'.1 j = s.1 j := fun j hj => hf.1 j (by
    have := List.all_eq_true.mp hK j hj
    simpa using this)
  have key2 : ∀ j, j ∈ [21, 22] → s'.2 j = s.2 j := fun j hj => hf.2 j (by
    have := List.all_eq_true.mp hJ j hj
    simpa using this)
  unfold knAt ptAt
  rw [key 15 (by simp), key 16 (by simp), key 17 (by simp), key 18 (by simp), key 19 (by simp), key 20 (by simp), key2 21 (by simp), key2 22 (by simp)]
  exact h
end Q2

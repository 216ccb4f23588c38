/-! THE COMPONENT: numberOfTrailingZeros, bitCount; constructors of the own exceptions (printed by gen) -/
section O7S
variable {g : GB} {M : MI} {d c k : Nat} {h : HM}
section
variable {Q : RS → HM → Prop} {pc : Nat} {ls : List (Option Value)} {st : List Value}
theorem ev_getsU {idx : Nat} (hG : GKx g) (hd : decode M.2.1 pc = .ok (.getstatic idx, 3)) (hw : (Jvm.Cond.fieldLink M.1.cls idx "java/lang/Throwable" "UNASSIGNED_STACK" "[Ljava/lang/StackTraceElement;") ∈ lw_all) (kk : ∀ q : Option Nat, Ev g M d c k Q (pc + 3) ls (va_rf q :: st) h) : Ev g M d c k Q pc ls st h := by
  intro p l e R s m args below meth cd H locs cells slots mc ms lz F hc' hk hmc hms hL hR hz hl
  rcases (hG s F.gk).2.2.2.2.2.2.2.2.2.1.1.1 with hq | ⟨q, hq⟩
  · exact va_gets F.1 F.2.1 (F.z hq) (F.vaS hR hz hl) F.own (F.words _ hw) (fun _ q => q) hd (kk none p l e R s m args below meth cd H locs cells slots mc ms lz F hc' hk hmc hms hL hR hz hl)
  · exact va_gets F.1 F.2.1 (F.z hq) (F.vaS hR hz hl) F.own (F.words _ hw) (fun _ q => q) hd (kk (some q) p l e R s m args below meth cd H locs cells slots mc ms lz F hc' hk hmc hms hL hR hz hl)
theorem ev_getsN {idx : Nat} (hG : GKx g) (hd : decode M.2.1 pc = .ok (.getstatic idx, 3)) (hw : (Jvm.Cond.fieldLink M.1.cls idx "java/lang/Throwable" "SUPPRESSED_SENTINEL" "Ljava/util/List;") ∈ lw_all) (kk : ∀ q : Option Nat, Ev g M d c k Q (pc + 3) ls (va_rf q :: st) h) : Ev g M d c k Q pc ls st h := by
  intro p l e R s m args below meth cd H locs cells slots mc ms lz F hc' hk hmc hms hL hR hz hl
  rcases (hG s F.gk).2.2.2.2.2.2.2.2.2.1.2.1 with hq | ⟨q, hq⟩
  · exact va_gets F.1 F.2.1 (F.z hq) (F.vaS hR hz hl) F.own (F.words _ hw) (fun _ q => q) hd (kk none p l e R s m args below meth cd H locs cells slots mc ms lz F hc' hk hmc hms hL hR hz hl)
  · exact va_gets F.1 F.2.1 (F.z hq) (F.vaS hR hz hl) F.own (F.words _ hw) (fun _ q => q) hd (kk (some q) p l e R s m args below meth cd H locs cells slots mc ms lz F hc' hk hmc hms hL hR hz hl)
theorem iushr_f : ∀ (n : Fin 256) (e : Fin 8), ((zI (n.val : Int)).toUInt32 >>> ((zI (e.val : Int)).toUInt32 &&& Int32.toUInt32 31)).toInt32 = zI ((n.val >>> e.val : Nat) : Int) := by decide +kernel
theorem ev_iushrN {n e : Nat} (hd : decode M.2.1 pc = .ok (.iushr, 1)) (hn : n < 256) (he : e < 8) (kk : Ev g M d c k Q (pc + 1) ls (vz ((n >>> e : Nat) : Int) :: st) h) : Ev g M d c k Q pc ls (vz (e : Int) :: vz (n : Int) :: st) h :=
  ev_iushr hd (by rw [iushr_f ⟨n, hn⟩ ⟨e, he⟩]; exact kk)
end
theorem ntz_w : ∀ n : Fin 256, 0 < n.val → Value.int ((zI (n.val : Int) ^^^ Int32.ofInt (-1)) &&& (zI (n.val : Int) - Int32.ofInt 1)) = vz (((2 ^ low n.val - 1 : Nat)) : Int) := by decide +kernel
theorem low_8 : ∀ n : Fin 256, low n.val < 8 := by decide +kernel
set_option maxRecDepth 100000 in
set_option maxHeartbeats 4000000 in
theorem k_ntz {n : Nat} (hn : 0 < n ∧ n < 256) : Kc g mJ28_numberOfTrailingZeros d 0 0 [vz (n : Int)] h (sR (some (vz ((low n : Nat) : Int))) h) := by
  refine Kc.of (ls := [some (vz (n : Int)), none]) (by decide +kernel) (Nat.le_of_ble_eq_true rfl) rfl ?_
  refine ev_iload_n dJ28_numberOfTrailingZeros_0 rfl ?_
  refine ev_iconst dJ28_numberOfTrailingZeros_1 ?_
  refine ev_ixor dJ28_numberOfTrailingZeros_2 ?_
  refine ev_iload_n dJ28_numberOfTrailingZeros_3 rfl ?_
  refine ev_iconst dJ28_numberOfTrailingZeros_4 ?_
  refine ev_isub dJ28_numberOfTrailingZeros_5 ?_
  refine ev_iand dJ28_numberOfTrailingZeros_6 ?_
  refine ev_nm (fun y ey => ?_)
  rw [show y = vz (((2 ^ low n - 1 : Nat)) : Int) from ey.trans (ntz_w ⟨n, hn.2⟩ hn.1)]
  clear ey
  refine ev_istore_n dJ28_numberOfTrailingZeros_7 (by decide) rfl ?_
  dsimp only [List.set]
  have hlo : low n < 8 := low_8 ⟨n, hn.2⟩
  have hcs : low n = 0 ∨ low n = 1 ∨ low n = 2 ∨ low n = 3 ∨ low n = 4 ∨ low n = 5 ∨ low n = 6 ∨ low n = 7 := by omega
  clear hlo
  rcases hcs with q | q | q | q | q | q | q | q <;> rw [q]
  · refine ev_iload_n dJ28_numberOfTrailingZeros_8 rfl ?_
    refine ev_to (b := 0) (by decide) ?_
    refine ev_if_gtZ (tgt := 17) dJ28_numberOfTrailingZeros_9 (by decide) (by omega) (fun c => absurd c (by omega)) (fun c => ?_)
    refine ev_iload_n dJ28_numberOfTrailingZeros_12 rfl ?_
    refine ev_bipushZ dJ28_numberOfTrailingZeros_13 rfl ?_
    refine ev_iandZ (a := 2 ^ 0 - 1) (b := 32) dJ28_numberOfTrailingZeros_15 (by decide) (by decide) ?_
    refine ev_ireturn dJ28_numberOfTrailingZeros_16 rfl ?_
    exact ⟨rfl, rfl⟩
  · refine ev_iload_n dJ28_numberOfTrailingZeros_8 rfl ?_
    refine ev_to (b := 1) (by decide) ?_
    refine ev_if_gtZ (tgt := 17) dJ28_numberOfTrailingZeros_9 (by decide) (by omega) (fun c => ?_) (fun c => absurd (by omega) c)
    refine ev_iconstZ dJ28_numberOfTrailingZeros_17 ?_
    refine ev_istore_n dJ28_numberOfTrailingZeros_18 (by decide) rfl ?_
    dsimp only [List.set]
    refine ev_iload_n dJ28_numberOfTrailingZeros_19 rfl ?_
    refine ev_to (b := 1) (by decide) ?_
    refine ev_ldcwiZ (n := 65536) (v := 65536) dJ28_numberOfTrailingZeros_20 q1999 (by decide) ?_
    refine ev_icmp_leZ (tgt := 34) dJ28_numberOfTrailingZeros_23 (by decide) (by omega) (by omega) (fun c => ?_) (fun c => absurd (by omega) c)
    refine ev_iload_n dJ28_numberOfTrailingZeros_34 rfl ?_
    refine ev_to (b := 1) (by decide) ?_
    refine ev_sipushZ dJ28_numberOfTrailingZeros_35 rfl ?_
    refine ev_icmp_leZ (tgt := 49) dJ28_numberOfTrailingZeros_38 (by decide) (by omega) (by omega) (fun c => ?_) (fun c => absurd (by omega) c)
    refine ev_iload_n dJ28_numberOfTrailingZeros_49 rfl ?_
    refine ev_to (b := 1) (by decide) ?_
    refine ev_bipushZ dJ28_numberOfTrailingZeros_50 rfl ?_
    refine ev_icmp_leZ (tgt := 62) dJ28_numberOfTrailingZeros_52 (by decide) (by omega) (by omega) (fun c => ?_) (fun c => absurd (by omega) c)
    refine ev_iload_n dJ28_numberOfTrailingZeros_62 rfl ?_
    refine ev_to (b := 1) (by decide) ?_
    refine ev_iconstZ dJ28_numberOfTrailingZeros_63 ?_
    refine ev_icmp_leZ (tgt := 74) dJ28_numberOfTrailingZeros_64 (by decide) (by omega) (by omega) (fun c => ?_) (fun c => absurd (by omega) c)
    refine ev_iload_n dJ28_numberOfTrailingZeros_74 rfl ?_
    refine ev_iload_n dJ28_numberOfTrailingZeros_75 rfl ?_
    refine ev_iconstZ dJ28_numberOfTrailingZeros_76 ?_
    refine ev_iushrN (n := 1) (e := 1) dJ28_numberOfTrailingZeros_77 (by decide) (by decide) ?_
    refine ev_iaddZ dJ28_numberOfTrailingZeros_78 ?_
    refine ev_ireturn dJ28_numberOfTrailingZeros_79 rfl ?_
    exact ⟨congrArg Sum.inl (vz_eq (by decide)), rfl⟩
  · refine ev_iload_n dJ28_numberOfTrailingZeros_8 rfl ?_
    refine ev_to (b := 3) (by decide) ?_
    refine ev_if_gtZ (tgt := 17) dJ28_numberOfTrailingZeros_9 (by decide) (by omega) (fun c => ?_) (fun c => absurd (by omega) c)
    refine ev_iconstZ dJ28_numberOfTrailingZeros_17 ?_
    refine ev_istore_n dJ28_numberOfTrailingZeros_18 (by decide) rfl ?_
    dsimp only [List.set]
    refine ev_iload_n dJ28_numberOfTrailingZeros_19 rfl ?_
    refine ev_to (b := 3) (by decide) ?_
    refine ev_ldcwiZ (n := 65536) (v := 65536) dJ28_numberOfTrailingZeros_20 q1999 (by decide) ?_
    refine ev_icmp_leZ (tgt := 34) dJ28_numberOfTrailingZeros_23 (by decide) (by omega) (by omega) (fun c => ?_) (fun c => absurd (by omega) c)
    refine ev_iload_n dJ28_numberOfTrailingZeros_34 rfl ?_
    refine ev_to (b := 3) (by decide) ?_
    refine ev_sipushZ dJ28_numberOfTrailingZeros_35 rfl ?_
    refine ev_icmp_leZ (tgt := 49) dJ28_numberOfTrailingZeros_38 (by decide) (by omega) (by omega) (fun c => ?_) (fun c => absurd (by omega) c)
    refine ev_iload_n dJ28_numberOfTrailingZeros_49 rfl ?_
    refine ev_to (b := 3) (by decide) ?_
    refine ev_bipushZ dJ28_numberOfTrailingZeros_50 rfl ?_
    refine ev_icmp_leZ (tgt := 62) dJ28_numberOfTrailingZeros_52 (by decide) (by omega) (by omega) (fun c => ?_) (fun c => absurd (by omega) c)
    refine ev_iload_n dJ28_numberOfTrailingZeros_62 rfl ?_
    refine ev_to (b := 3) (by decide) ?_
    refine ev_iconstZ dJ28_numberOfTrailingZeros_63 ?_
    refine ev_icmp_leZ (tgt := 74) dJ28_numberOfTrailingZeros_64 (by decide) (by omega) (by omega) (fun c => ?_) (fun c => absurd (by omega) c)
    refine ev_iload_n dJ28_numberOfTrailingZeros_74 rfl ?_
    refine ev_iload_n dJ28_numberOfTrailingZeros_75 rfl ?_
    refine ev_iconstZ dJ28_numberOfTrailingZeros_76 ?_
    refine ev_iushrN (n := 3) (e := 1) dJ28_numberOfTrailingZeros_77 (by decide) (by decide) ?_
    refine ev_iaddZ dJ28_numberOfTrailingZeros_78 ?_
    refine ev_ireturn dJ28_numberOfTrailingZeros_79 rfl ?_
    exact ⟨congrArg Sum.inl (vz_eq (by decide)), rfl⟩
  · refine ev_iload_n dJ28_numberOfTrailingZeros_8 rfl ?_
    refine ev_to (b := 7) (by decide) ?_
    refine ev_if_gtZ (tgt := 17) dJ28_numberOfTrailingZeros_9 (by decide) (by omega) (fun c => ?_) (fun c => absurd (by omega) c)
    refine ev_iconstZ dJ28_numberOfTrailingZeros_17 ?_
    refine ev_istore_n dJ28_numberOfTrailingZeros_18 (by decide) rfl ?_
    dsimp only [List.set]
    refine ev_iload_n dJ28_numberOfTrailingZeros_19 rfl ?_
    refine ev_to (b := 7) (by decide) ?_
    refine ev_ldcwiZ (n := 65536) (v := 65536) dJ28_numberOfTrailingZeros_20 q1999 (by decide) ?_
    refine ev_icmp_leZ (tgt := 34) dJ28_numberOfTrailingZeros_23 (by decide) (by omega) (by omega) (fun c => ?_) (fun c => absurd (by omega) c)
    refine ev_iload_n dJ28_numberOfTrailingZeros_34 rfl ?_
    refine ev_to (b := 7) (by decide) ?_
    refine ev_sipushZ dJ28_numberOfTrailingZeros_35 rfl ?_
    refine ev_icmp_leZ (tgt := 49) dJ28_numberOfTrailingZeros_38 (by decide) (by omega) (by omega) (fun c => ?_) (fun c => absurd (by omega) c)
    refine ev_iload_n dJ28_numberOfTrailingZeros_49 rfl ?_
    refine ev_to (b := 7) (by decide) ?_
    refine ev_bipushZ dJ28_numberOfTrailingZeros_50 rfl ?_
    refine ev_icmp_leZ (tgt := 62) dJ28_numberOfTrailingZeros_52 (by decide) (by omega) (by omega) (fun c => ?_) (fun c => absurd (by omega) c)
    refine ev_iload_n dJ28_numberOfTrailingZeros_62 rfl ?_
    refine ev_to (b := 7) (by decide) ?_
    refine ev_iconstZ dJ28_numberOfTrailingZeros_63 ?_
    refine ev_icmp_leZ (tgt := 74) dJ28_numberOfTrailingZeros_64 (by decide) (by omega) (by omega) (fun c => absurd c (by omega)) (fun c => ?_)
    refine ev_iincZ dJ28_numberOfTrailingZeros_67 rfl (by decide) rfl ?_
    dsimp only [List.set]
    refine ev_iload_n dJ28_numberOfTrailingZeros_70 rfl ?_
    refine ev_iconstZ dJ28_numberOfTrailingZeros_71 ?_
    refine ev_iushrN (n := 7) (e := 2) dJ28_numberOfTrailingZeros_72 (by decide) (by decide) ?_
    refine ev_istore_n dJ28_numberOfTrailingZeros_73 (by decide) rfl ?_
    dsimp only [List.set]
    refine ev_iload_n dJ28_numberOfTrailingZeros_74 rfl ?_
    refine ev_iload_n dJ28_numberOfTrailingZeros_75 rfl ?_
    refine ev_iconstZ dJ28_numberOfTrailingZeros_76 ?_
    refine ev_iushrN (n := 1) (e := 1) dJ28_numberOfTrailingZeros_77 (by decide) (by decide) ?_
    refine ev_iaddZ dJ28_numberOfTrailingZeros_78 ?_
    refine ev_ireturn dJ28_numberOfTrailingZeros_79 rfl ?_
    exact ⟨congrArg Sum.inl (vz_eq (by decide)), rfl⟩
  · refine ev_iload_n dJ28_numberOfTrailingZeros_8 rfl ?_
    refine ev_to (b := 15) (by decide) ?_
    refine ev_if_gtZ (tgt := 17) dJ28_numberOfTrailingZeros_9 (by decide) (by omega) (fun c => ?_) (fun c => absurd (by omega) c)
    refine ev_iconstZ dJ28_numberOfTrailingZeros_17 ?_
    refine ev_istore_n dJ28_numberOfTrailingZeros_18 (by decide) rfl ?_
    dsimp only [List.set]
    refine ev_iload_n dJ28_numberOfTrailingZeros_19 rfl ?_
    refine ev_to (b := 15) (by decide) ?_
    refine ev_ldcwiZ (n := 65536) (v := 65536) dJ28_numberOfTrailingZeros_20 q1999 (by decide) ?_
    refine ev_icmp_leZ (tgt := 34) dJ28_numberOfTrailingZeros_23 (by decide) (by omega) (by omega) (fun c => ?_) (fun c => absurd (by omega) c)
    refine ev_iload_n dJ28_numberOfTrailingZeros_34 rfl ?_
    refine ev_to (b := 15) (by decide) ?_
    refine ev_sipushZ dJ28_numberOfTrailingZeros_35 rfl ?_
    refine ev_icmp_leZ (tgt := 49) dJ28_numberOfTrailingZeros_38 (by decide) (by omega) (by omega) (fun c => ?_) (fun c => absurd (by omega) c)
    refine ev_iload_n dJ28_numberOfTrailingZeros_49 rfl ?_
    refine ev_to (b := 15) (by decide) ?_
    refine ev_bipushZ dJ28_numberOfTrailingZeros_50 rfl ?_
    refine ev_icmp_leZ (tgt := 62) dJ28_numberOfTrailingZeros_52 (by decide) (by omega) (by omega) (fun c => ?_) (fun c => absurd (by omega) c)
    refine ev_iload_n dJ28_numberOfTrailingZeros_62 rfl ?_
    refine ev_to (b := 15) (by decide) ?_
    refine ev_iconstZ dJ28_numberOfTrailingZeros_63 ?_
    refine ev_icmp_leZ (tgt := 74) dJ28_numberOfTrailingZeros_64 (by decide) (by omega) (by omega) (fun c => absurd c (by omega)) (fun c => ?_)
    refine ev_iincZ dJ28_numberOfTrailingZeros_67 rfl (by decide) rfl ?_
    dsimp only [List.set]
    refine ev_iload_n dJ28_numberOfTrailingZeros_70 rfl ?_
    refine ev_iconstZ dJ28_numberOfTrailingZeros_71 ?_
    refine ev_iushrN (n := 15) (e := 2) dJ28_numberOfTrailingZeros_72 (by decide) (by decide) ?_
    refine ev_istore_n dJ28_numberOfTrailingZeros_73 (by decide) rfl ?_
    dsimp only [List.set]
    refine ev_iload_n dJ28_numberOfTrailingZeros_74 rfl ?_
    refine ev_iload_n dJ28_numberOfTrailingZeros_75 rfl ?_
    refine ev_iconstZ dJ28_numberOfTrailingZeros_76 ?_
    refine ev_iushrN (n := 3) (e := 1) dJ28_numberOfTrailingZeros_77 (by decide) (by decide) ?_
    refine ev_iaddZ dJ28_numberOfTrailingZeros_78 ?_
    refine ev_ireturn dJ28_numberOfTrailingZeros_79 rfl ?_
    exact ⟨congrArg Sum.inl (vz_eq (by decide)), rfl⟩
  · refine ev_iload_n dJ28_numberOfTrailingZeros_8 rfl ?_
    refine ev_to (b := 31) (by decide) ?_
    refine ev_if_gtZ (tgt := 17) dJ28_numberOfTrailingZeros_9 (by decide) (by omega) (fun c => ?_) (fun c => absurd (by omega) c)
    refine ev_iconstZ dJ28_numberOfTrailingZeros_17 ?_
    refine ev_istore_n dJ28_numberOfTrailingZeros_18 (by decide) rfl ?_
    dsimp only [List.set]
    refine ev_iload_n dJ28_numberOfTrailingZeros_19 rfl ?_
    refine ev_to (b := 31) (by decide) ?_
    refine ev_ldcwiZ (n := 65536) (v := 65536) dJ28_numberOfTrailingZeros_20 q1999 (by decide) ?_
    refine ev_icmp_leZ (tgt := 34) dJ28_numberOfTrailingZeros_23 (by decide) (by omega) (by omega) (fun c => ?_) (fun c => absurd (by omega) c)
    refine ev_iload_n dJ28_numberOfTrailingZeros_34 rfl ?_
    refine ev_to (b := 31) (by decide) ?_
    refine ev_sipushZ dJ28_numberOfTrailingZeros_35 rfl ?_
    refine ev_icmp_leZ (tgt := 49) dJ28_numberOfTrailingZeros_38 (by decide) (by omega) (by omega) (fun c => ?_) (fun c => absurd (by omega) c)
    refine ev_iload_n dJ28_numberOfTrailingZeros_49 rfl ?_
    refine ev_to (b := 31) (by decide) ?_
    refine ev_bipushZ dJ28_numberOfTrailingZeros_50 rfl ?_
    refine ev_icmp_leZ (tgt := 62) dJ28_numberOfTrailingZeros_52 (by decide) (by omega) (by omega) (fun c => absurd c (by omega)) (fun c => ?_)
    refine ev_iincZ dJ28_numberOfTrailingZeros_55 rfl (by decide) rfl ?_
    dsimp only [List.set]
    refine ev_iload_n dJ28_numberOfTrailingZeros_58 rfl ?_
    refine ev_iconstZ dJ28_numberOfTrailingZeros_59 ?_
    refine ev_iushrN (n := 31) (e := 4) dJ28_numberOfTrailingZeros_60 (by decide) (by decide) ?_
    refine ev_istore_n dJ28_numberOfTrailingZeros_61 (by decide) rfl ?_
    dsimp only [List.set]
    refine ev_iload_n dJ28_numberOfTrailingZeros_62 rfl ?_
    refine ev_to (b := 1) (by decide) ?_
    refine ev_iconstZ dJ28_numberOfTrailingZeros_63 ?_
    refine ev_icmp_leZ (tgt := 74) dJ28_numberOfTrailingZeros_64 (by decide) (by omega) (by omega) (fun c => ?_) (fun c => absurd (by omega) c)
    refine ev_iload_n dJ28_numberOfTrailingZeros_74 rfl ?_
    refine ev_iload_n dJ28_numberOfTrailingZeros_75 rfl ?_
    refine ev_iconstZ dJ28_numberOfTrailingZeros_76 ?_
    refine ev_iushrN (n := 1) (e := 1) dJ28_numberOfTrailingZeros_77 (by decide) (by decide) ?_
    refine ev_iaddZ dJ28_numberOfTrailingZeros_78 ?_
    refine ev_ireturn dJ28_numberOfTrailingZeros_79 rfl ?_
    exact ⟨congrArg Sum.inl (vz_eq (by decide)), rfl⟩
  · refine ev_iload_n dJ28_numberOfTrailingZeros_8 rfl ?_
    refine ev_to (b := 63) (by decide) ?_
    refine ev_if_gtZ (tgt := 17) dJ28_numberOfTrailingZeros_9 (by decide) (by omega) (fun c => ?_) (fun c => absurd (by omega) c)
    refine ev_iconstZ dJ28_numberOfTrailingZeros_17 ?_
    refine ev_istore_n dJ28_numberOfTrailingZeros_18 (by decide) rfl ?_
    dsimp only [List.set]
    refine ev_iload_n dJ28_numberOfTrailingZeros_19 rfl ?_
    refine ev_to (b := 63) (by decide) ?_
    refine ev_ldcwiZ (n := 65536) (v := 65536) dJ28_numberOfTrailingZeros_20 q1999 (by decide) ?_
    refine ev_icmp_leZ (tgt := 34) dJ28_numberOfTrailingZeros_23 (by decide) (by omega) (by omega) (fun c => ?_) (fun c => absurd (by omega) c)
    refine ev_iload_n dJ28_numberOfTrailingZeros_34 rfl ?_
    refine ev_to (b := 63) (by decide) ?_
    refine ev_sipushZ dJ28_numberOfTrailingZeros_35 rfl ?_
    refine ev_icmp_leZ (tgt := 49) dJ28_numberOfTrailingZeros_38 (by decide) (by omega) (by omega) (fun c => ?_) (fun c => absurd (by omega) c)
    refine ev_iload_n dJ28_numberOfTrailingZeros_49 rfl ?_
    refine ev_to (b := 63) (by decide) ?_
    refine ev_bipushZ dJ28_numberOfTrailingZeros_50 rfl ?_
    refine ev_icmp_leZ (tgt := 62) dJ28_numberOfTrailingZeros_52 (by decide) (by omega) (by omega) (fun c => absurd c (by omega)) (fun c => ?_)
    refine ev_iincZ dJ28_numberOfTrailingZeros_55 rfl (by decide) rfl ?_
    dsimp only [List.set]
    refine ev_iload_n dJ28_numberOfTrailingZeros_58 rfl ?_
    refine ev_iconstZ dJ28_numberOfTrailingZeros_59 ?_
    refine ev_iushrN (n := 63) (e := 4) dJ28_numberOfTrailingZeros_60 (by decide) (by decide) ?_
    refine ev_istore_n dJ28_numberOfTrailingZeros_61 (by decide) rfl ?_
    dsimp only [List.set]
    refine ev_iload_n dJ28_numberOfTrailingZeros_62 rfl ?_
    refine ev_to (b := 3) (by decide) ?_
    refine ev_iconstZ dJ28_numberOfTrailingZeros_63 ?_
    refine ev_icmp_leZ (tgt := 74) dJ28_numberOfTrailingZeros_64 (by decide) (by omega) (by omega) (fun c => ?_) (fun c => absurd (by omega) c)
    refine ev_iload_n dJ28_numberOfTrailingZeros_74 rfl ?_
    refine ev_iload_n dJ28_numberOfTrailingZeros_75 rfl ?_
    refine ev_iconstZ dJ28_numberOfTrailingZeros_76 ?_
    refine ev_iushrN (n := 3) (e := 1) dJ28_numberOfTrailingZeros_77 (by decide) (by decide) ?_
    refine ev_iaddZ dJ28_numberOfTrailingZeros_78 ?_
    refine ev_ireturn dJ28_numberOfTrailingZeros_79 rfl ?_
    exact ⟨congrArg Sum.inl (vz_eq (by decide)), rfl⟩
  · refine ev_iload_n dJ28_numberOfTrailingZeros_8 rfl ?_
    refine ev_to (b := 127) (by decide) ?_
    refine ev_if_gtZ (tgt := 17) dJ28_numberOfTrailingZeros_9 (by decide) (by omega) (fun c => ?_) (fun c => absurd (by omega) c)
    refine ev_iconstZ dJ28_numberOfTrailingZeros_17 ?_
    refine ev_istore_n dJ28_numberOfTrailingZeros_18 (by decide) rfl ?_
    dsimp only [List.set]
    refine ev_iload_n dJ28_numberOfTrailingZeros_19 rfl ?_
    refine ev_to (b := 127) (by decide) ?_
    refine ev_ldcwiZ (n := 65536) (v := 65536) dJ28_numberOfTrailingZeros_20 q1999 (by decide) ?_
    refine ev_icmp_leZ (tgt := 34) dJ28_numberOfTrailingZeros_23 (by decide) (by omega) (by omega) (fun c => ?_) (fun c => absurd (by omega) c)
    refine ev_iload_n dJ28_numberOfTrailingZeros_34 rfl ?_
    refine ev_to (b := 127) (by decide) ?_
    refine ev_sipushZ dJ28_numberOfTrailingZeros_35 rfl ?_
    refine ev_icmp_leZ (tgt := 49) dJ28_numberOfTrailingZeros_38 (by decide) (by omega) (by omega) (fun c => ?_) (fun c => absurd (by omega) c)
    refine ev_iload_n dJ28_numberOfTrailingZeros_49 rfl ?_
    refine ev_to (b := 127) (by decide) ?_
    refine ev_bipushZ dJ28_numberOfTrailingZeros_50 rfl ?_
    refine ev_icmp_leZ (tgt := 62) dJ28_numberOfTrailingZeros_52 (by decide) (by omega) (by omega) (fun c => absurd c (by omega)) (fun c => ?_)
    refine ev_iincZ dJ28_numberOfTrailingZeros_55 rfl (by decide) rfl ?_
    dsimp only [List.set]
    refine ev_iload_n dJ28_numberOfTrailingZeros_58 rfl ?_
    refine ev_iconstZ dJ28_numberOfTrailingZeros_59 ?_
    refine ev_iushrN (n := 127) (e := 4) dJ28_numberOfTrailingZeros_60 (by decide) (by decide) ?_
    refine ev_istore_n dJ28_numberOfTrailingZeros_61 (by decide) rfl ?_
    dsimp only [List.set]
    refine ev_iload_n dJ28_numberOfTrailingZeros_62 rfl ?_
    refine ev_to (b := 7) (by decide) ?_
    refine ev_iconstZ dJ28_numberOfTrailingZeros_63 ?_
    refine ev_icmp_leZ (tgt := 74) dJ28_numberOfTrailingZeros_64 (by decide) (by omega) (by omega) (fun c => absurd c (by omega)) (fun c => ?_)
    refine ev_iincZ dJ28_numberOfTrailingZeros_67 rfl (by decide) rfl ?_
    dsimp only [List.set]
    refine ev_iload_n dJ28_numberOfTrailingZeros_70 rfl ?_
    refine ev_iconstZ dJ28_numberOfTrailingZeros_71 ?_
    refine ev_iushrN (n := 7) (e := 2) dJ28_numberOfTrailingZeros_72 (by decide) (by decide) ?_
    refine ev_istore_n dJ28_numberOfTrailingZeros_73 (by decide) rfl ?_
    dsimp only [List.set]
    refine ev_iload_n dJ28_numberOfTrailingZeros_74 rfl ?_
    refine ev_iload_n dJ28_numberOfTrailingZeros_75 rfl ?_
    refine ev_iconstZ dJ28_numberOfTrailingZeros_76 ?_
    refine ev_iushrN (n := 1) (e := 1) dJ28_numberOfTrailingZeros_77 (by decide) (by decide) ?_
    refine ev_iaddZ dJ28_numberOfTrailingZeros_78 ?_
    refine ev_ireturn dJ28_numberOfTrailingZeros_79 rfl ?_
    exact ⟨congrArg Sum.inl (vz_eq (by decide)), rfl⟩
section
variable {Q : RS → HM → Prop} {pc : Nat} {ls : List (Option Value)} {st : List Value}
theorem ev_ldcw_ {index : Nat} {v : Int32} (hd : decode M.2.1 pc = .ok (.ldc_w index, 3)) (hw : (Jvm.Cond.constant M.1.cls index v) ∈ lw_all) (kk : Ev g M d c k Q (pc + 3) ls (.int v :: st) h) : Ev g M d c k Q pc ls st h := by
  intro p l e R s m args below meth cd H locs cells slots mc ms lz F hc hk hmc hms hL hR hz hl
  exact lv_ldcw F.1 F.2.1 F.2.2.2.2.2.1 (F.2.2.2.2.2.2.1 _ hw) hd (kk p l e R s m args below meth cd H locs cells slots mc ms lz F hc hk hmc hms hL hR hz hl)
end
def bc1 (x : Int32) : Int32 := x - ((x.toUInt32 >>> ((Int32.ofInt 1).toUInt32 &&& Int32.toUInt32 31)).toInt32 &&& (1431655765 : Int32))
def bc2 (x : Int32) : Int32 := (x &&& (858993459 : Int32)) + ((x.toUInt32 >>> ((Int32.ofInt 2).toUInt32 &&& Int32.toUInt32 31)).toInt32 &&& (858993459 : Int32))
def bc3 (x : Int32) : Int32 := (x + (x.toUInt32 >>> ((Int32.ofInt 4).toUInt32 &&& Int32.toUInt32 31)).toInt32) &&& (252645135 : Int32)
def bc4 (e x : Int32) : Int32 := x + (x.toUInt32 >>> (e.toUInt32 &&& Int32.toUInt32 31)).toInt32
theorem bc_f : ∀ n : Fin 256, bc4 16 (bc4 8 (bc3 (bc2 (bc1 (zI (n.val : Int)))))) &&& (63 : Int32) = zI ((bitsU n.val 8 : Nat) : Int) := by decide +kernel
set_option maxRecDepth 100000 in
set_option maxHeartbeats 4000000 in
theorem k_bitCount {n : Nat} (hn : n < 256) : Kc g mJ28_bitCount d 0 0 [vz (n : Int)] h (sR (some (vz ((bitsU n 8 : Nat) : Int))) h) := by
  refine Kc.of (ls := [some (vz (n : Int))]) (by decide +kernel) (Nat.le_of_ble_eq_true rfl) rfl ?_
  refine ev_iload_n dJ28_bitCount_0 rfl ?_
  refine ev_iload_n dJ28_bitCount_1 rfl ?_
  refine ev_iconst dJ28_bitCount_2 ?_
  refine ev_iushr dJ28_bitCount_3 ?_
  refine ev_ldcw_ (v := 1431655765) dJ28_bitCount_4 q2496 ?_
  refine ev_iand dJ28_bitCount_7 ?_
  refine ev_isub dJ28_bitCount_8 ?_
  refine ev_istore_n dJ28_bitCount_9 (by decide) rfl ?_
  dsimp only [List.set]
  refine ev_iload_n dJ28_bitCount_10 rfl ?_
  refine ev_ldcw_ (v := 858993459) dJ28_bitCount_11 q2497 ?_
  refine ev_iand dJ28_bitCount_14 ?_
  refine ev_iload_n dJ28_bitCount_15 rfl ?_
  refine ev_iconst dJ28_bitCount_16 ?_
  refine ev_iushr dJ28_bitCount_17 ?_
  refine ev_ldcw_ (v := 858993459) dJ28_bitCount_18 q2497 ?_
  refine ev_iand dJ28_bitCount_21 ?_
  refine ev_iadd dJ28_bitCount_22 ?_
  refine ev_istore_n dJ28_bitCount_23 (by decide) rfl ?_
  dsimp only [List.set]
  refine ev_iload_n dJ28_bitCount_24 rfl ?_
  refine ev_iload_n dJ28_bitCount_25 rfl ?_
  refine ev_iconst dJ28_bitCount_26 ?_
  refine ev_iushr dJ28_bitCount_27 ?_
  refine ev_iadd dJ28_bitCount_28 ?_
  refine ev_ldcw_ (v := 252645135) dJ28_bitCount_29 q2498 ?_
  refine ev_iand dJ28_bitCount_32 ?_
  refine ev_istore_n dJ28_bitCount_33 (by decide) rfl ?_
  dsimp only [List.set]
  refine ev_iload_n dJ28_bitCount_34 rfl ?_
  refine ev_iload_n dJ28_bitCount_35 rfl ?_
  refine ev_bipush (v := 8) dJ28_bitCount_36 (by decide) ?_
  refine ev_iushr dJ28_bitCount_38 ?_
  refine ev_iadd dJ28_bitCount_39 ?_
  refine ev_istore_n dJ28_bitCount_40 (by decide) rfl ?_
  dsimp only [List.set]
  refine ev_iload_n dJ28_bitCount_41 rfl ?_
  refine ev_iload_n dJ28_bitCount_42 rfl ?_
  refine ev_bipush (v := 16) dJ28_bitCount_43 (by decide) ?_
  refine ev_iushr dJ28_bitCount_45 ?_
  refine ev_iadd dJ28_bitCount_46 ?_
  refine ev_istore_n dJ28_bitCount_47 (by decide) rfl ?_
  dsimp only [List.set]
  refine ev_iload_n dJ28_bitCount_48 rfl ?_
  refine ev_bipush (v := 63) dJ28_bitCount_49 (by decide) ?_
  refine ev_iand dJ28_bitCount_51 ?_
  refine ev_ireturn dJ28_bitCount_52 rfl ?_
  exact ⟨congrArg (fun v => Sum.inl (some (Value.int v))) (bc_f ⟨n, hn⟩), rfl⟩
set_option maxRecDepth 100000 in
set_option maxHeartbeats 4000000 in
theorem k_thr4_X17 {a : Nat} (hG : GKx g) (ha : h a = some (.inr (13, [.null, .null, .null, .null, .null, vz 0, vz 0, vz 0]))) (hB : gB g ≤ a) (hd : 1 ≤ d) : Kc g mJ9_init_4 d (0) (0) [.ref a, .null, .null, vz 0, vz 0] h (rR (fun r h' => r = none ∧ h' a = some (.inr (13, [.null, .null, .null, .null, .null, vz 0, vz 0, vz 0])) ∧ Fr g h h' [a])) := by
  refine Kc.of (ls := [some (.ref a), some (.null), some (.null), some (vz 0), some (vz 0)]) (by decide +kernel) (Nat.le_of_ble_eq_true rfl) rfl ?_
  refine ev_aload_n dJ9_init_4_0 rfl ?_
  refine ev_objInit dJ9_init_4_1 q403 q183 q184 (by omega) rfl ?_
  refine ev_aload_n dJ9_init_4_4 rfl ?_
  refine ev_aload_n dJ9_init_4_5 rfl ?_
  refine ev_putC [.ref a, .null, .null, .null, .null, vz 0, vz 0, vz 0] dJ9_init_4_6 gf_J9_7_X17 ha hB (Or.inl rfl) rfl rfl (Nat.le_of_ble_eq_true rfl) rfl (fun hp_1 ha_2 f3 => ?_)
  have F4 := ((Fr.refl (g := g) _ [a])).write (Or.inl ⟨_, ha_2⟩) f3 hB (by simp)
  refine ev_aload_n dJ9_init_4_9 rfl ?_
  refine ev_getsU hG dJ9_init_4_10 q404 (fun qU => ?_)
  refine ev_putC [.ref a, va_rf qU, .null, .null, .null, vz 0, vz 0, vz 0] dJ9_init_4_13 gf_J9_17_X17 ha_2 hB (Or.inl rfl) (by cases qU <;> rfl) (by cases qU <;> rfl) (Nat.le_of_ble_eq_true rfl) rfl (fun hp_5 ha_6 f7 => ?_)
  have F8 := (F4).write (Or.inl ⟨_, ha_6⟩) f7 hB (by simp)
  refine ev_aload_n dJ9_init_4_16 rfl ?_
  refine ev_getsN hG dJ9_init_4_17 q406 (fun qN => ?_)
  refine ev_putC [.ref a, va_rf qU, va_rf qN, .null, .null, vz 0, vz 0, vz 0] dJ9_init_4_20 gf_J9_24_X17 ha_6 hB (Or.inl rfl) (by cases qN <;> rfl) (by cases qN <;> rfl) (Nat.le_of_ble_eq_true rfl) rfl (fun hp_9 ha_10 f11 => ?_)
  have F12 := (F8).write (Or.inl ⟨_, ha_10⟩) f11 hB (by simp)
  refine ev_iload dJ9_init_4_23 rfl ?_
  refine ev_if_eqZ (tgt := 36) dJ9_init_4_25 (by decide) (by omega) (fun c25 => ?_) (fun c25 => by omega)
  refine ev_aload_n dJ9_init_4_36 rfl ?_
  refine ev_null dJ9_init_4_37 ?_
  refine ev_putC [.ref a, .null, va_rf qN, .null, .null, vz 0, vz 0, vz 0] dJ9_init_4_38 gf_J9_17_X17 ha_10 hB (Or.inl rfl) rfl rfl (Nat.le_of_ble_eq_true rfl) rfl (fun hp_13 ha_14 f15 => ?_)
  have F16 := (F12).write (Or.inl ⟨_, ha_14⟩) f15 hB (by simp)
  refine ev_aload_n dJ9_init_4_41 rfl ?_
  refine ev_aload_nN dJ9_init_4_42 rfl ?_
  refine ev_putC [.ref a, .null, va_rf qN, .null, .null, vz 0, vz 0, vz 0] dJ9_init_4_43 gf_J9_31_X17 ha_14 hB (Or.inl rfl) rfl rfl (Nat.le_of_ble_eq_true rfl) rfl (fun hp_17 ha_18 f19 => ?_)
  have F20 := (F16).write (Or.inl ⟨_, ha_18⟩) f19 hB (by simp)
  refine ev_aload_n dJ9_init_4_46 rfl ?_
  refine ev_aload_nN dJ9_init_4_47 rfl ?_
  refine ev_putC [.null, .null, va_rf qN, .null, .null, vz 0, vz 0, vz 0] dJ9_init_4_48 gf_J9_7_X17 ha_18 hB (Or.inl rfl) rfl rfl (Nat.le_of_ble_eq_true rfl) rfl (fun hp_21 ha_22 f23 => ?_)
  have F24 := (F20).write (Or.inl ⟨_, ha_22⟩) f23 hB (by simp)
  refine ev_iload_n dJ9_init_4_51 rfl ?_
  refine ev_if_neZ (tgt := 60) dJ9_init_4_52 (by decide) (by omega) (fun c52 => by omega) (fun c52 => ?_)
  refine ev_aload_n dJ9_init_4_55 rfl ?_
  refine ev_null dJ9_init_4_56 ?_
  refine ev_putC [.null, .null, .null, .null, .null, vz 0, vz 0, vz 0] dJ9_init_4_57 gf_J9_24_X17 ha_22 hB (Or.inl rfl) rfl rfl (Nat.le_of_ble_eq_true rfl) rfl (fun hp_25 ha_26 f27 => ?_)
  have F28 := (F24).write (Or.inl ⟨_, ha_26⟩) f27 hB (by simp)
  refine ev_return dJ9_init_4_60 rfl ?_
  exact ⟨_, rfl, rfl, ha_26, F28⟩
set_option maxRecDepth 100000 in
set_option maxHeartbeats 4000000 in
theorem k_exc4_X17 {a : Nat} (hG : GKx g) (ha : h a = some (.inr (13, [.null, .null, .null, .null, .null, vz 0, vz 0, vz 0]))) (hB : gB g ≤ a) (hd : 2 ≤ d) : Kc g mJ10_init_4 d (0) (0) [.ref a, .null, .null, vz 0, vz 0] h (rR (fun r h' => r = none ∧ h' a = some (.inr (13, [.null, .null, .null, .null, .null, vz 0, vz 0, vz 0])) ∧ Fr g h h' [a])) := by
  refine Kc.of (ls := [some (.ref a), some (.null), some (.null), some (vz 0), some (vz 0)]) (by decide +kernel) (Nat.le_of_ble_eq_true rfl) rfl ?_
  refine ev_aload_n dJ10_init_4_0 rfl ?_
  refine ev_aload_nN dJ10_init_4_1 rfl ?_
  refine ev_aload_nN dJ10_init_4_2 rfl ?_
  refine ev_iload_n dJ10_init_4_3 rfl ?_
  refine ev_iload dJ10_init_4_4 rfl ?_
  refine ev_callVR dJ10_init_4_6 ci_J10_16 ce_J9_init_4 ha rfl rfl rfl (k_thr4_X17 (d := 1) hG ha hB (Nat.le_refl _)) (by omega) (by omega) (by omega) (Nat.le_of_ble_eq_true rfl) (fun v1 hp_1 P1 => ?_)
  obtain ⟨rfl, hn1, fr1⟩ := P1
  have F2 := ((Fr.refl (g := g) _ [a])).call fr1 (fun x hx => Or.inl hx)
  refine ev_return dJ10_init_4_9 rfl ?_
  exact ⟨_, rfl, rfl, hn1, F2⟩
set_option maxRecDepth 100000 in
set_option maxHeartbeats 4000000 in
theorem k_initX17 {a : Nat} {x y : Int} (hG : GKx g) (ha : h a = some (.inr (13, [.null, .null, .null, .null, .null, vz 0, vz 0, vz 0]))) (hB : gB g ≤ a) (hd : 3 ≤ d) : Kc g mX17_init d (0) (0) [.ref a, vz x, vz y] h (rR (fun r h' => r = none ∧ h' a = some (.inr (13, [.null, .null, .null, .null, .null, vz 0, vz x, vz y])) ∧ Fr g h h' [a])) := by
  refine Kc.of (ls := [some (.ref a), some (vz x), some (vz y)]) (by decide +kernel) (Nat.le_of_ble_eq_true rfl) rfl ?_
  refine ev_aload_n dX17_init_0 rfl ?_
  refine ev_null dX17_init_1 ?_
  refine ev_null dX17_init_2 ?_
  refine ev_iconstZ dX17_init_3 ?_
  refine ev_iconstZ dX17_init_4 ?_
  refine ev_callVR dX17_init_5 ci_X17_1 ce_J10_init_4 ha rfl rfl rfl (k_exc4_X17 (d := 2) hG ha hB (Nat.le_refl _)) (by omega) (by omega) (by omega) (Nat.le_of_ble_eq_true rfl) (fun v1 hp_1 P1 => ?_)
  obtain ⟨rfl, hn1, fr1⟩ := P1
  have F2 := ((Fr.refl (g := g) _ [a])).call fr1 (fun x hx => Or.inl hx)
  refine ev_aload_n dX17_init_8 rfl ?_
  refine ev_iload_n dX17_init_9 rfl ?_
  refine ev_putC [.null, .null, .null, .null, .null, vz 0, vz x, vz 0] dX17_init_10 gf_X17_7_X17 hn1 hB (Or.inr ⟨rfl, rfl⟩) rfl rfl (Nat.le_of_ble_eq_true rfl) rfl (fun hp_3 hn1_4 f5 => ?_)
  have F6 := (F2).write (Or.inl ⟨_, hn1_4⟩) f5 hB (by simp)
  refine ev_aload_n dX17_init_13 rfl ?_
  refine ev_iload_n dX17_init_14 rfl ?_
  refine ev_putC [.null, .null, .null, .null, .null, vz 0, vz x, vz y] dX17_init_15 gf_X17_13_X17 hn1_4 hB (Or.inr ⟨rfl, rfl⟩) rfl rfl (Nat.le_of_ble_eq_true rfl) rfl (fun hp_7 hn1_8 f9 => ?_)
  have F10 := (F6).write (Or.inl ⟨_, hn1_8⟩) f9 hB (by simp)
  refine ev_return dX17_init_18 rfl ?_
  exact ⟨_, rfl, rfl, hn1_8, F10⟩
set_option maxRecDepth 100000 in
set_option maxHeartbeats 4000000 in
theorem k_thr4_X7 {a : Nat} (hG : GKx g) (ha : h a = some (.inr (6, [.null, .null, .null, .null, .null, vz 0, vz 0]))) (hB : gB g ≤ a) (hd : 1 ≤ d) : Kc g mJ9_init_4 d (0) (0) [.ref a, .null, .null, vz 0, vz 0] h (rR (fun r h' => r = none ∧ h' a = some (.inr (6, [.null, .null, .null, .null, .null, vz 0, vz 0])) ∧ Fr g h h' [a])) := by
  refine Kc.of (ls := [some (.ref a), some (.null), some (.null), some (vz 0), some (vz 0)]) (by decide +kernel) (Nat.le_of_ble_eq_true rfl) rfl ?_
  refine ev_aload_n dJ9_init_4_0 rfl ?_
  refine ev_objInit dJ9_init_4_1 q403 q183 q184 (by omega) rfl ?_
  refine ev_aload_n dJ9_init_4_4 rfl ?_
  refine ev_aload_n dJ9_init_4_5 rfl ?_
  refine ev_putC [.ref a, .null, .null, .null, .null, vz 0, vz 0] dJ9_init_4_6 gf_J9_7_X7 ha hB (Or.inl rfl) rfl rfl (Nat.le_of_ble_eq_true rfl) rfl (fun hp_1 ha_2 f3 => ?_)
  have F4 := ((Fr.refl (g := g) _ [a])).write (Or.inl ⟨_, ha_2⟩) f3 hB (by simp)
  refine ev_aload_n dJ9_init_4_9 rfl ?_
  refine ev_getsU hG dJ9_init_4_10 q404 (fun qU => ?_)
  refine ev_putC [.ref a, va_rf qU, .null, .null, .null, vz 0, vz 0] dJ9_init_4_13 gf_J9_17_X7 ha_2 hB (Or.inl rfl) (by cases qU <;> rfl) (by cases qU <;> rfl) (Nat.le_of_ble_eq_true rfl) rfl (fun hp_5 ha_6 f7 => ?_)
  have F8 := (F4).write (Or.inl ⟨_, ha_6⟩) f7 hB (by simp)
  refine ev_aload_n dJ9_init_4_16 rfl ?_
  refine ev_getsN hG dJ9_init_4_17 q406 (fun qN => ?_)
  refine ev_putC [.ref a, va_rf qU, va_rf qN, .null, .null, vz 0, vz 0] dJ9_init_4_20 gf_J9_24_X7 ha_6 hB (Or.inl rfl) (by cases qN <;> rfl) (by cases qN <;> rfl) (Nat.le_of_ble_eq_true rfl) rfl (fun hp_9 ha_10 f11 => ?_)
  have F12 := (F8).write (Or.inl ⟨_, ha_10⟩) f11 hB (by simp)
  refine ev_iload dJ9_init_4_23 rfl ?_
  refine ev_if_eqZ (tgt := 36) dJ9_init_4_25 (by decide) (by omega) (fun c25 => ?_) (fun c25 => by omega)
  refine ev_aload_n dJ9_init_4_36 rfl ?_
  refine ev_null dJ9_init_4_37 ?_
  refine ev_putC [.ref a, .null, va_rf qN, .null, .null, vz 0, vz 0] dJ9_init_4_38 gf_J9_17_X7 ha_10 hB (Or.inl rfl) rfl rfl (Nat.le_of_ble_eq_true rfl) rfl (fun hp_13 ha_14 f15 => ?_)
  have F16 := (F12).write (Or.inl ⟨_, ha_14⟩) f15 hB (by simp)
  refine ev_aload_n dJ9_init_4_41 rfl ?_
  refine ev_aload_nN dJ9_init_4_42 rfl ?_
  refine ev_putC [.ref a, .null, va_rf qN, .null, .null, vz 0, vz 0] dJ9_init_4_43 gf_J9_31_X7 ha_14 hB (Or.inl rfl) rfl rfl (Nat.le_of_ble_eq_true rfl) rfl (fun hp_17 ha_18 f19 => ?_)
  have F20 := (F16).write (Or.inl ⟨_, ha_18⟩) f19 hB (by simp)
  refine ev_aload_n dJ9_init_4_46 rfl ?_
  refine ev_aload_nN dJ9_init_4_47 rfl ?_
  refine ev_putC [.null, .null, va_rf qN, .null, .null, vz 0, vz 0] dJ9_init_4_48 gf_J9_7_X7 ha_18 hB (Or.inl rfl) rfl rfl (Nat.le_of_ble_eq_true rfl) rfl (fun hp_21 ha_22 f23 => ?_)
  have F24 := (F20).write (Or.inl ⟨_, ha_22⟩) f23 hB (by simp)
  refine ev_iload_n dJ9_init_4_51 rfl ?_
  refine ev_if_neZ (tgt := 60) dJ9_init_4_52 (by decide) (by omega) (fun c52 => by omega) (fun c52 => ?_)
  refine ev_aload_n dJ9_init_4_55 rfl ?_
  refine ev_null dJ9_init_4_56 ?_
  refine ev_putC [.null, .null, .null, .null, .null, vz 0, vz 0] dJ9_init_4_57 gf_J9_24_X7 ha_22 hB (Or.inl rfl) rfl rfl (Nat.le_of_ble_eq_true rfl) rfl (fun hp_25 ha_26 f27 => ?_)
  have F28 := (F24).write (Or.inl ⟨_, ha_26⟩) f27 hB (by simp)
  refine ev_return dJ9_init_4_60 rfl ?_
  exact ⟨_, rfl, rfl, ha_26, F28⟩
set_option maxRecDepth 100000 in
set_option maxHeartbeats 4000000 in
theorem k_exc4_X7 {a : Nat} (hG : GKx g) (ha : h a = some (.inr (6, [.null, .null, .null, .null, .null, vz 0, vz 0]))) (hB : gB g ≤ a) (hd : 2 ≤ d) : Kc g mJ10_init_4 d (0) (0) [.ref a, .null, .null, vz 0, vz 0] h (rR (fun r h' => r = none ∧ h' a = some (.inr (6, [.null, .null, .null, .null, .null, vz 0, vz 0])) ∧ Fr g h h' [a])) := by
  refine Kc.of (ls := [some (.ref a), some (.null), some (.null), some (vz 0), some (vz 0)]) (by decide +kernel) (Nat.le_of_ble_eq_true rfl) rfl ?_
  refine ev_aload_n dJ10_init_4_0 rfl ?_
  refine ev_aload_nN dJ10_init_4_1 rfl ?_
  refine ev_aload_nN dJ10_init_4_2 rfl ?_
  refine ev_iload_n dJ10_init_4_3 rfl ?_
  refine ev_iload dJ10_init_4_4 rfl ?_
  refine ev_callVR dJ10_init_4_6 ci_J10_16 ce_J9_init_4 ha rfl rfl rfl (k_thr4_X7 (d := 1) hG ha hB (Nat.le_refl _)) (by omega) (by omega) (by omega) (Nat.le_of_ble_eq_true rfl) (fun v1 hp_1 P1 => ?_)
  obtain ⟨rfl, hn1, fr1⟩ := P1
  have F2 := ((Fr.refl (g := g) _ [a])).call fr1 (fun x hx => Or.inl hx)
  refine ev_return dJ10_init_4_9 rfl ?_
  exact ⟨_, rfl, rfl, hn1, F2⟩
set_option maxRecDepth 100000 in
set_option maxHeartbeats 4000000 in
theorem k_initX7 {a : Nat} {x : Int} (hG : GKx g) (ha : h a = some (.inr (6, [.null, .null, .null, .null, .null, vz 0, vz 0]))) (hB : gB g ≤ a) (hd : 3 ≤ d) : Kc g mX7_init d (0) (0) [.ref a, vz x] h (rR (fun r h' => r = none ∧ h' a = some (.inr (6, [.null, .null, .null, .null, .null, vz 0, vz x])) ∧ Fr g h h' [a])) := by
  refine Kc.of (ls := [some (.ref a), some (vz x)]) (by decide +kernel) (Nat.le_of_ble_eq_true rfl) rfl ?_
  refine ev_aload_n dX7_init_0 rfl ?_
  refine ev_null dX7_init_1 ?_
  refine ev_null dX7_init_2 ?_
  refine ev_iconstZ dX7_init_3 ?_
  refine ev_iconstZ dX7_init_4 ?_
  refine ev_callVR dX7_init_5 ci_X7_1 ce_J10_init_4 ha rfl rfl rfl (k_exc4_X7 (d := 2) hG ha hB (Nat.le_refl _)) (by omega) (by omega) (by omega) (Nat.le_of_ble_eq_true rfl) (fun v1 hp_1 P1 => ?_)
  obtain ⟨rfl, hn1, fr1⟩ := P1
  have F2 := ((Fr.refl (g := g) _ [a])).call fr1 (fun x hx => Or.inl hx)
  refine ev_aload_n dX7_init_8 rfl ?_
  refine ev_iload_n dX7_init_9 rfl ?_
  refine ev_putC [.null, .null, .null, .null, .null, vz 0, vz x] dX7_init_10 gf_X7_7_X7 hn1 hB (Or.inr ⟨rfl, rfl⟩) rfl rfl (Nat.le_of_ble_eq_true rfl) rfl (fun hp_3 hn1_4 f5 => ?_)
  have F6 := (F2).write (Or.inl ⟨_, hn1_4⟩) f5 hB (by simp)
  refine ev_return dX7_init_13 rfl ?_
  exact ⟨_, rfl, rfl, hn1_4, F6⟩
end O7S

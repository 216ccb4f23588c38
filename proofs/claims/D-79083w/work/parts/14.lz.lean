/-! ints by their numbers: zI, and the rules for it (printed by gen/mklz.py) -/
section LZ
def zI (a : Int) : Int32 := Int32.ofInt a
abbrev vz (a : Int) : Value := .int (zI a)
abbrev inR (a : Int) : Prop := -2147483648 ≤ a ∧ a < 2147483648
theorem zI_toInt {a : Int} (h : inR a) : (zI a).toInt = a := Int32.toInt_ofInt_of_le (by omega) (by omega)
theorem zI_of (x : Int32) : ∃ a : Int, inR a ∧ x = zI a := ⟨x.toInt, ⟨by have := Int32.le_toInt x; omega, by have := Int32.toInt_lt x; omega⟩, (Int32.ofInt_toInt x).symm⟩
theorem zI_eq {a b : Int} (ha : inR a) (hb : inR b) : zI a = zI b ↔ a = b := ⟨fun h => by rw [← zI_toInt ha, ← zI_toInt hb, h], fun h => by rw [h]⟩
theorem zI_lt {a b : Int} (ha : inR a) (hb : inR b) : zI a < zI b ↔ a < b := by rw [Int32.lt_iff_toInt_lt, zI_toInt ha, zI_toInt hb]
theorem zI_le {a b : Int} (ha : inR a) (hb : inR b) : zI a ≤ zI b ↔ a ≤ b := by rw [Int32.le_iff_toInt_le, zI_toInt ha, zI_toInt hb]
theorem zI_add (a b : Int) : zI a + zI b = zI (a + b) := (Int32.ofInt_add a b).symm
theorem zI_sub (a b : Int) : zI a - zI b = zI (a - b) := (Int32.ofInt_sub a b).symm
theorem zI_mul (a b : Int) : zI a * zI b = zI (a * b) := (Int32.ofInt_mul a b).symm
theorem zI_neg (a : Int) : -zI a = zI (-a) := (Int32.ofInt_neg a).symm
theorem zI_0 : zI 0 = 0 := by decide
theorem zI_lt0 {a : Int} (ha : inR a) : zI a < 0 ↔ a < 0 := by rw [← zI_0]; exact zI_lt ha (by decide)
theorem zI_eq0 {a : Int} (ha : inR a) : zI a = 0 ↔ a = 0 := by rw [← zI_0]; exact zI_eq ha (by decide)
theorem zI_0lt {a : Int} (ha : inR a) : 0 < zI a ↔ 0 < a := by rw [← zI_0]; exact zI_lt (by decide) ha
theorem zI_0le {a : Int} (ha : inR a) : 0 ≤ zI a ↔ 0 ≤ a := by rw [← zI_0]; exact zI_le (by decide) ha
theorem zI_le0 {a : Int} (ha : inR a) : zI a ≤ 0 ↔ a ≤ 0 := by rw [← zI_0]; exact zI_le ha (by decide)
theorem zI_nat (n : Nat) : Int32.ofNat n = zI n := (Int32.ofInt_eq_ofNat).symm
theorem zI_clamp {a : Int} (h0 : 0 ≤ a) (h : inR a) : (zI a).toNatClampNeg = a.toNat := by
  show (zI a).toInt.toNat = _
  rw [zI_toInt h]
theorem zI_in {a : Int} {n : Nat} (h0 : 0 ≤ a) (h1 : a < n) (h : inR a) : vp_in (zI a) n := vp_in_iff.mpr (by rw [zI_toInt h]; exact ⟨h0, h1⟩)
theorem zI_div {a b : Int} (h0 : 0 ≤ a) (ha : inR a) (h1 : 0 < b) (hb : inR b) : zI a / zI b = zI (a / b) := by
  have h := Int32.ofInt_tdiv (a := a) (b := b) (by show -2147483648 ≤ a; omega) (by show a ≤ 2147483647; omega) (by show -2147483648 ≤ b; omega) (by show b ≤ 2147483647; omega)
  rw [Int.tdiv_eq_ediv_of_nonneg h0] at h
  exact h.symm
theorem zI_rem {a b : Int} (h0 : 0 ≤ a) (ha : inR a) (h1 : 0 < b) (hb : inR b) : zI a - zI a / zI b * zI b = zI (a % b) := by
  rw [zI_div h0 ha h1 hb, zI_mul, zI_sub, Int.emod_def, Int.mul_comm b]
theorem zI_byte {n : Int} (h0 : -128 ≤ n) (h1 : n < 128) : (Int8.ofInt n).toInt32 = zI n := by
  show Int32.ofInt (Int8.ofInt n).toInt = Int32.ofInt n
  rw [Int8.toInt_ofInt_of_le (by omega) (by omega)]
theorem zI_short {n : Int} (h0 : -32768 ≤ n) (h1 : n < 32768) : (Int16.ofInt n).toInt32 = zI n := by
  show Int32.ofInt (Int16.ofInt n).toInt = Int32.ofInt n
  rw [Int16.toInt_ofInt_of_le (by omega) (by omega)]
theorem zI_and {a b : Nat} (ha : a < 2 ^ 31) (hb : b < 2 ^ 31) : zI a &&& zI b = zI ((a &&& b : Nat) : Int) := by
  rw [← zI_nat, ← zI_nat, ← zI_nat]
  apply Int32.toBitVec_inj.mp
  simp
theorem zI_or {a b : Nat} (ha : a < 2 ^ 31) (hb : b < 2 ^ 31) : zI a ||| zI b = zI ((a ||| b : Nat) : Int) := by
  rw [← zI_nat, ← zI_nat, ← zI_nat]
  apply Int32.toBitVec_inj.mp
  simp
theorem zI_xor {a b : Nat} (ha : a < 2 ^ 31) (hb : b < 2 ^ 31) : zI a ^^^ zI b = zI ((a ^^^ b : Nat) : Int) := by
  rw [← zI_nat, ← zI_nat, ← zI_nat]
  apply Int32.toBitVec_inj.mp
  simp
/-- an array of ints with one place changed -/
def uz {α : Type} (f : Nat → α) (k : Nat) (x : α) : Nat → α := fun j => if j = k then x else f j
theorem uz_same {α : Type} (f : Nat → α) (k : Nat) (x : α) : uz f k x k = x := if_pos rfl
theorem uz_ne {α : Type} {f : Nat → α} {k j : Nat} {x : α} (h : j ≠ k) : uz f k x j = f j := if_neg h
theorem uz_zI (A : Nat → Int) (k : Nat) (x : Int) : upd (fun j => zI (A j)) k (zI x) = fun j => zI (uz A k x j) := by
  funext j
  unfold upd uz
  by_cases h : j = k
  · rw [if_pos h, if_pos h]
  · rw [if_neg h, if_neg h]
variable {g : GB} {M : MI} {d c k : Nat} {Q : RS → HM → Prop} {pc : Nat} {ls : List (Option Value)} {st : List Value} {h : HM} {a b : Int}
theorem ev_iconstZ {n : Int} (hd : decode M.2.1 pc = .ok (.iconst n, 1)) (kk : Ev g M d c k Q (pc + 1) ls (vz n :: st) h) : Ev g M d c k Q pc ls st h := ev_iconst hd kk
theorem ev_bipushZ {n : Int} (hd : decode M.2.1 pc = .ok (.bipush n, 2)) (h0 : (decide (-128 ≤ n) && decide (n < 128)) = true) (kk : Ev g M d c k Q (pc + 2) ls (vz n :: st) h) : Ev g M d c k Q pc ls st h := by
  simp only [Bool.and_eq_true, decide_eq_true_eq] at h0
  exact ev_bipush hd (zI_byte h0.1 h0.2) kk
theorem ev_sipushZ {n : Int} (hd : decode M.2.1 pc = .ok (.sipush n, 3)) (h0 : (decide (-32768 ≤ n) && decide (n < 32768)) = true) (kk : Ev g M d c k Q (pc + 3) ls (vz n :: st) h) : Ev g M d c k Q pc ls st h := by
  simp only [Bool.and_eq_true, decide_eq_true_eq] at h0
  exact ev_sipush hd (zI_short h0.1 h0.2) kk
theorem ev_iaddZ (hd : decode M.2.1 pc = .ok (.iadd, 1)) (kk : Ev g M d c k Q (pc + 1) ls (vz (a + b) :: st) h) : Ev g M d c k Q pc ls (vz b :: vz a :: st) h := ev_iadd hd (by rw [zI_add]; exact kk)
theorem ev_isubZ (hd : decode M.2.1 pc = .ok (.isub, 1)) (kk : Ev g M d c k Q (pc + 1) ls (vz (a - b) :: st) h) : Ev g M d c k Q pc ls (vz b :: vz a :: st) h := ev_isub hd (by rw [zI_sub]; exact kk)
theorem ev_imulZ (hd : decode M.2.1 pc = .ok (.imul, 1)) (kk : Ev g M d c k Q (pc + 1) ls (vz (a * b) :: st) h) : Ev g M d c k Q pc ls (vz b :: vz a :: st) h := ev_imul hd (by rw [zI_mul]; exact kk)
theorem ev_inegZ (hd : decode M.2.1 pc = .ok (.ineg, 1)) (kk : Ev g M d c k Q (pc + 1) ls (vz (-a) :: st) h) : Ev g M d c k Q pc ls (vz a :: st) h := ev_ineg hd (by rw [zI_neg]; exact kk)
theorem ev_idivZ (hd : decode M.2.1 pc = .ok (.idiv, 1)) (h0 : 0 ≤ a) (ha : inR a) (h1 : 0 < b) (hb : inR b) (kk : Ev g M d c k Q (pc + 1) ls (vz (a / b) :: st) h) : Ev g M d c k Q pc ls (vz b :: vz a :: st) h :=
  ev_idiv hd (fun q => by rw [zI_eq0 hb] at q; omega) (by rw [zI_div h0 ha h1 hb]; exact kk)
theorem ev_iremZ (hd : decode M.2.1 pc = .ok (.irem, 1)) (h0 : 0 ≤ a) (ha : inR a) (h1 : 0 < b) (hb : inR b) (kk : Ev g M d c k Q (pc + 1) ls (vz (a % b) :: st) h) : Ev g M d c k Q pc ls (vz b :: vz a :: st) h :=
  ev_irem hd (fun q => by rw [zI_eq0 hb] at q; omega) (by rw [zI_rem h0 ha h1 hb]; exact kk)
theorem ev_iandZ {a b : Nat} (hd : decode M.2.1 pc = .ok (.iand, 1)) (ha : a < 2 ^ 31) (hb : b < 2 ^ 31) (kk : Ev g M d c k Q (pc + 1) ls (vz ((a &&& b : Nat) : Int) :: st) h) : Ev g M d c k Q pc ls (vz b :: vz a :: st) h := ev_iand hd (by rw [zI_and ha hb]; exact kk)
theorem ev_iorZ {a b : Nat} (hd : decode M.2.1 pc = .ok (.ior, 1)) (ha : a < 2 ^ 31) (hb : b < 2 ^ 31) (kk : Ev g M d c k Q (pc + 1) ls (vz ((a ||| b : Nat) : Int) :: st) h) : Ev g M d c k Q pc ls (vz b :: vz a :: st) h := ev_ior hd (by rw [zI_or ha hb]; exact kk)
theorem ev_ixorZ {a b : Nat} (hd : decode M.2.1 pc = .ok (.ixor, 1)) (ha : a < 2 ^ 31) (hb : b < 2 ^ 31) (kk : Ev g M d c k Q (pc + 1) ls (vz ((a ^^^ b : Nat) : Int) :: st) h) : Ev g M d c k Q pc ls (vz b :: vz a :: st) h := ev_ixor hd (by rw [zI_xor ha hb]; exact kk)
theorem ev_iincZ {i : Nat} {n : Int} (hd : decode M.2.1 pc = .ok (.iinc i n, 3)) (hv : ls[i]? = some (some (vz a))) (hi : i < M.2.2.1) (hp : okP ls i = true) (kk : Ev g M d c k Q (pc + 3) (ls.set i (some (vz (a + n)))) st h) : Ev g M d c k Q pc ls st h := ev_iinc hd hv hi hp (by
  have e : zI a + Int32.ofInt n = zI (a + n) := zI_add a n
  rw [e]; exact kk)

theorem ev_icmp_eqZ {off : Int} {tgt : Nat} (hd : decode M.2.1 pc = .ok (.if_icmp .eq off, 3)) (ht : (pc : Int) + off = (tgt : Int)) (ha : inR a) (hb : inR b) (kt : a = b → Ev g M d c k Q tgt ls st h) (kf : ¬ a = b → Ev g M d c k Q (pc + 3) ls st h) : Ev g M d c k Q pc ls (vz b :: vz a :: st) h := ev_icmp_eq hd ht (fun q => kt ((zI_eq ha hb).mp q)) (fun q => kf (fun r => q ((zI_eq ha hb).mpr r)))
theorem ev_icmp_neZ {off : Int} {tgt : Nat} (hd : decode M.2.1 pc = .ok (.if_icmp .ne off, 3)) (ht : (pc : Int) + off = (tgt : Int)) (ha : inR a) (hb : inR b) (kt : ¬ a = b → Ev g M d c k Q tgt ls st h) (kf : a = b → Ev g M d c k Q (pc + 3) ls st h) : Ev g M d c k Q pc ls (vz b :: vz a :: st) h := ev_icmp_ne hd ht (fun q => kt (fun r => q ((zI_eq ha hb).mpr r))) (fun q => kf ((zI_eq ha hb).mp q))
theorem ev_icmp_ltZ {off : Int} {tgt : Nat} (hd : decode M.2.1 pc = .ok (.if_icmp .lt off, 3)) (ht : (pc : Int) + off = (tgt : Int)) (ha : inR a) (hb : inR b) (kt : a < b → Ev g M d c k Q tgt ls st h) (kf : ¬ a < b → Ev g M d c k Q (pc + 3) ls st h) : Ev g M d c k Q pc ls (vz b :: vz a :: st) h := ev_icmp_lt hd ht (fun q => kt ((zI_lt ha hb).mp q)) (fun q => kf (fun r => q ((zI_lt ha hb).mpr r)))
theorem ev_icmp_geZ {off : Int} {tgt : Nat} (hd : decode M.2.1 pc = .ok (.if_icmp .ge off, 3)) (ht : (pc : Int) + off = (tgt : Int)) (ha : inR a) (hb : inR b) (kt : b ≤ a → Ev g M d c k Q tgt ls st h) (kf : ¬ b ≤ a → Ev g M d c k Q (pc + 3) ls st h) : Ev g M d c k Q pc ls (vz b :: vz a :: st) h := ev_icmp_ge hd ht (fun q => kt ((zI_le hb ha).mp q)) (fun q => kf (fun r => q ((zI_le hb ha).mpr r)))
theorem ev_icmp_gtZ {off : Int} {tgt : Nat} (hd : decode M.2.1 pc = .ok (.if_icmp .gt off, 3)) (ht : (pc : Int) + off = (tgt : Int)) (ha : inR a) (hb : inR b) (kt : b < a → Ev g M d c k Q tgt ls st h) (kf : ¬ b < a → Ev g M d c k Q (pc + 3) ls st h) : Ev g M d c k Q pc ls (vz b :: vz a :: st) h := ev_icmp_gt hd ht (fun q => kt ((zI_lt hb ha).mp q)) (fun q => kf (fun r => q ((zI_lt hb ha).mpr r)))
theorem ev_icmp_leZ {off : Int} {tgt : Nat} (hd : decode M.2.1 pc = .ok (.if_icmp .le off, 3)) (ht : (pc : Int) + off = (tgt : Int)) (ha : inR a) (hb : inR b) (kt : a ≤ b → Ev g M d c k Q tgt ls st h) (kf : ¬ a ≤ b → Ev g M d c k Q (pc + 3) ls st h) : Ev g M d c k Q pc ls (vz b :: vz a :: st) h := ev_icmp_le hd ht (fun q => kt ((zI_le ha hb).mp q)) (fun q => kf (fun r => q ((zI_le ha hb).mpr r)))
theorem ev_if_eqZ {off : Int} {tgt : Nat} (hd : decode M.2.1 pc = .ok (.ifCond .eq off, 3)) (ht : (pc : Int) + off = (tgt : Int)) (ha : inR a) (kt : a = 0 → Ev g M d c k Q tgt ls st h) (kf : ¬ a = 0 → Ev g M d c k Q (pc + 3) ls st h) : Ev g M d c k Q pc ls (vz a :: st) h := ev_if_eq hd ht (fun q => kt ((zI_eq0 ha).mp q)) (fun q => kf (fun r => q ((zI_eq0 ha).mpr r)))
theorem ev_if_neZ {off : Int} {tgt : Nat} (hd : decode M.2.1 pc = .ok (.ifCond .ne off, 3)) (ht : (pc : Int) + off = (tgt : Int)) (ha : inR a) (kt : ¬ a = 0 → Ev g M d c k Q tgt ls st h) (kf : a = 0 → Ev g M d c k Q (pc + 3) ls st h) : Ev g M d c k Q pc ls (vz a :: st) h := ev_if_ne hd ht (fun q => kt (fun r => q ((zI_eq0 ha).mpr r))) (fun q => kf ((zI_eq0 ha).mp q))
theorem ev_if_ltZ {off : Int} {tgt : Nat} (hd : decode M.2.1 pc = .ok (.ifCond .lt off, 3)) (ht : (pc : Int) + off = (tgt : Int)) (ha : inR a) (kt : a < 0 → Ev g M d c k Q tgt ls st h) (kf : ¬ a < 0 → Ev g M d c k Q (pc + 3) ls st h) : Ev g M d c k Q pc ls (vz a :: st) h := ev_if_lt hd ht (fun q => kt ((zI_lt0 ha).mp q)) (fun q => kf (fun r => q ((zI_lt0 ha).mpr r)))
theorem ev_if_geZ {off : Int} {tgt : Nat} (hd : decode M.2.1 pc = .ok (.ifCond .ge off, 3)) (ht : (pc : Int) + off = (tgt : Int)) (ha : inR a) (kt : 0 ≤ a → Ev g M d c k Q tgt ls st h) (kf : ¬ 0 ≤ a → Ev g M d c k Q (pc + 3) ls st h) : Ev g M d c k Q pc ls (vz a :: st) h := ev_if_ge hd ht (fun q => kt ((zI_0le ha).mp q)) (fun q => kf (fun r => q ((zI_0le ha).mpr r)))
theorem ev_if_gtZ {off : Int} {tgt : Nat} (hd : decode M.2.1 pc = .ok (.ifCond .gt off, 3)) (ht : (pc : Int) + off = (tgt : Int)) (ha : inR a) (kt : 0 < a → Ev g M d c k Q tgt ls st h) (kf : ¬ 0 < a → Ev g M d c k Q (pc + 3) ls st h) : Ev g M d c k Q pc ls (vz a :: st) h := ev_if_gt hd ht (fun q => kt ((zI_0lt ha).mp q)) (fun q => kf (fun r => q ((zI_0lt ha).mpr r)))
theorem ev_if_leZ {off : Int} {tgt : Nat} (hd : decode M.2.1 pc = .ok (.ifCond .le off, 3)) (ht : (pc : Int) + off = (tgt : Int)) (ha : inR a) (kt : a ≤ 0 → Ev g M d c k Q tgt ls st h) (kf : ¬ a ≤ 0 → Ev g M d c k Q (pc + 3) ls st h) : Ev g M d c k Q pc ls (vz a :: st) h := ev_if_le hd ht (fun q => kt ((zI_le0 ha).mp q)) (fun q => kf (fun r => q ((zI_le0 ha).mpr r)))
/-- a Bool as an int -/
def bI (x : Bool) : Int := if x then 1 else 0
theorem ev_if_eqB {x : Bool} {off : Int} {tgt : Nat} (hd : decode M.2.1 pc = .ok (.ifCond .eq off, 3)) (ht : (pc : Int) + off = (tgt : Int)) (kt : x = false → Ev g M d c k Q tgt ls st h) (kf : x = true → Ev g M d c k Q (pc + 3) ls st h) : Ev g M d c k Q pc ls (vz (bI x) :: st) h := by
  cases x with
  | false => exact ev_if_eqZ hd ht (by decide) (fun _ => kt rfl) (fun q => absurd rfl q)
  | true => exact ev_if_eqZ hd ht (by decide) (fun q => absurd q (by decide)) (fun _ => kf rfl)
theorem ev_if_neB {x : Bool} {off : Int} {tgt : Nat} (hd : decode M.2.1 pc = .ok (.ifCond .ne off, 3)) (ht : (pc : Int) + off = (tgt : Int)) (kt : x = true → Ev g M d c k Q tgt ls st h) (kf : x = false → Ev g M d c k Q (pc + 3) ls st h) : Ev g M d c k Q pc ls (vz (bI x) :: st) h := by
  cases x with
  | false => exact ev_if_neZ hd ht (by decide) (fun q => absurd rfl q) (fun _ => kf rfl)
  | true => exact ev_if_neZ hd ht (by decide) (fun _ => kt rfl) (fun q => absurd q (by decide))
theorem ev_ialdZ {q n : Nat} {A : Nat → Int} (hd : decode M.2.1 pc = .ok (.iaload, 1)) (ha : h q = some (.inl (0, (n, .inl (fun j => zI (A j)))))) (h0 : 0 ≤ a) (h1 : a < n) (hR : inR a) (kk : Ev g M d c k Q (pc + 1) ls (vz (A a.toNat) :: st) h) : Ev g M d c k Q pc ls (vz a :: .ref q :: st) h :=
  ev_iald hd ha (zI_in h0 h1 hR) (by rw [zI_clamp h0 hR]; exact kk)
theorem ev_zaldZ {q n : Nat} {A : Nat → Int} (hd : decode M.2.1 pc = .ok (.baload, 1)) (ha : h q = some (.inl (1, (n, .inl (fun j => zI (A j)))))) (h0 : 0 ≤ a) (h1 : a < n) (hR : inR a) (kk : Ev g M d c k Q (pc + 1) ls (vz (A a.toNat) :: st) h) : Ev g M d c k Q pc ls (vz a :: .ref q :: st) h :=
  ev_zald hd ha (zI_in h0 h1 hR) (by rw [zI_clamp h0 hR]; exact kk)
theorem ev_caldZ {q n : Nat} {A : Nat → Int} (hd : decode M.2.1 pc = .ok (.caload, 1)) (ha : h q = some (.inl (3, (n, .inl (fun j => zI (A j)))))) (h0 : 0 ≤ a) (h1 : a < n) (hR : inR a) (kk : Ev g M d c k Q (pc + 1) ls (vz (A a.toNat) :: st) h) : Ev g M d c k Q pc ls (vz a :: .ref q :: st) h :=
  ev_cald hd ha (zI_in h0 h1 hR) (by rw [zI_clamp h0 hR]; exact kk)
theorem ev_iastZ {q n : Nat} {A : Nat → Int} (hd : decode M.2.1 pc = .ok (.iastore, 1)) (ha : h q = some (.inl (0, (n, .inl (fun j => zI (A j)))))) (hB : gB g ≤ q) (h0 : 0 ≤ a) (h1 : a < n) (hR : inR a) (kk : Ev g M d c k Q (pc + 1) ls st (hs h q (.inl (0, (n, .inl (fun j => zI (uz A a.toNat b j))))))) : Ev g M d c k Q pc ls (vz b :: vz a :: .ref q :: st) h :=
  ev_iast hd ha hB (zI_in h0 h1 hR) (by rw [zI_clamp h0 hR, uz_zI]; exact kk)
theorem vp_nar_z {x : Int} (hx : x = 0 ∨ x = 1) : vp_nar .boolean (zI x) = zI x := by rcases hx with rfl | rfl <;> decide
theorem ev_zastZ {q n : Nat} {A : Nat → Int} (hd : decode M.2.1 pc = .ok (.bastore, 1)) (ha : h q = some (.inl (1, (n, .inl (fun j => zI (A j)))))) (hB : gB g ≤ q) (h0 : 0 ≤ a) (h1 : a < n) (hR : inR a) (hb : b = 0 ∨ b = 1) (kk : Ev g M d c k Q (pc + 1) ls st (hs h q (.inl (1, (n, .inl (fun j => zI (uz A a.toNat b j))))))) : Ev g M d c k Q pc ls (vz b :: vz a :: .ref q :: st) h :=
  ev_zast hd ha hB (zI_in h0 h1 hR) (by rw [zI_clamp h0 hR, vp_nar_z hb, uz_zI]; exact kk)
theorem ev_alenZ {q t n : Nat} {ty : FieldType} {x : (Nat → Int32) ⊕ (Nat → Int64) ⊕ (Nat → UInt32) ⊕ (Nat → UInt64) ⊕ (Nat → Option Nat)} (hd : decode M.2.1 pc = .ok (.arraylength, 1)) (ha : h q = some (.inl (t, (n, x)))) (ht : tyL[t]? = some ty) (kk : Ev g M d c k Q (pc + 1) ls (vz n :: st) h) : Ev g M d c k Q pc ls (.ref q :: st) h :=
  ev_alen hd ha ht (by rw [zI_nat]; exact kk)
/-- names for values that grew long -/
theorem ev_nm {x : Value} (kk : ∀ y, y = x → Ev g M d c k Q pc ls (y :: st) h) : Ev g M d c k Q pc ls (x :: st) h := kk x rfl
theorem ev_nz (kk : ∀ y : Int, y = a → Ev g M d c k Q pc ls (vz y :: st) h) : Ev g M d c k Q pc ls (vz a :: st) h := kk a rfl
end LZ


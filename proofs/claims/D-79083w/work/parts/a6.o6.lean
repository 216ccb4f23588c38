/-! THE LOGIC: new E(); throw (printed by gen/mko6.py) -/
section O6S
variable {g : GB} {M : MI} {d c k : Nat} {Q : RS → HM → Prop} {pc : Nat} {ls : List (Option Value)} {st : List Value} {h : HM}
def okw (w : Cond) : Bool := goodWord w || nwk w || nwk2 w
theorem thr_words {L : List Cond} (ps : List Nat) (hp : L = ps.filterMap (fun i => lw_tbl[i]?)) (hg : L.all okw = true) {s : State} {args : Array Value} (h1 : ∀ w ∈ lw_all, w.before args s = true) (h2 : NW s) (h3 : gKD g s) : ∀ w ∈ L, w.before args s = true := by
  intro w hw
  have hk := List.all_eq_true.mp hg w hw
  rw [hp] at hw
  obtain ⟨i, -, hi⟩ := List.mem_filterMap.mp hw
  have hm : w ∈ lw_tbl := List.mem_of_getElem? hi
  unfold okw at hk
  by_cases g1 : goodWord w = true
  · exact h1 w (List.mem_filter.mpr ⟨hm, g1⟩)
  · by_cases g2 : nwk w = true
    · have := h2 w hm g2
      cases w <;> first | exact va_Nw.use (A := args) rfl this | cases g2
    · have g3 : nwk2 w = true := by
        cases e1 : goodWord w with
        | true => exact absurd e1 g1
        | false =>
          cases e2 : nwk w with
          | true => exact absurd e2 g2
          | false => rw [e1, e2] at hk; simpa using hk
      have := h3.1 w hm g3
      cases w <;> first | exact va_Nw.use (A := args) rfl this | (simp only [Cond.before, Cond.holds, Cond.value] at this ⊢; exact this) | cases g3
theorem ev_throw0 {cls : String} {names : List String} {ik ic : Nat} (hG : GKx g) (hcls : Bundle.fit cls = true) (hnames : ∀ n ∈ names, Bundle.fit n = true) (hk : (Jvm.Cond.classLink M.1.cls ik cls) ∈ lw_all) (hini : (Jvm.Cond.initialized cls) ∈ lw_all) (ps : List Nat) (hat : vx_at0 M.1.cls ic cls names = ps.filterMap (fun i => lw_tbl[i]?)) (hok : (vx_at0 M.1.cls ic cls names).all okw = true)
    (hgood : (Cond.classLink M.1.cls ik cls :: Cond.initialized cls :: vx_at0 M.1.cls ic cls names).all vx_ot = true) (d0 : decode M.2.1 pc = .ok (.new ik, 3)) (d3 : decode M.2.1 (pc + 3) = .ok (.dup, 1)) (d4 : decode M.2.1 (pc + 4) = .ok (.invokespecial ic, 3)) (d7 : decode M.2.1 (pc + 7) = .ok (.athrow, 1))
    (hout : (hTab M).all (fun x => !covers x (pc + 7)) = true) (hd : names.length + 4 ≤ d) (hst : (st.map fun v => v.category).sum ≤ 8) (hc1 : 1 ≤ c) (hk6 : 6 ≤ k) (hQ : ∀ q : Nat, Q (.inr (cls, q)) h) : Ev g M d c k Q pc ls st h := by
  intro p l e R s m args below meth cd H locs cells slots mc ms lz F hc hkk hmc hms hL hR hz hl
  have hKD := hG s F.gk
  have hZ := hKD.2.2.2.2.2.2.2.2.2.1
  have fr := F.frames
  have rm := F.room
  refine vx_throw0 (cc := M.2.1) F.1 F.2.1 F.notr F.own hcls hnames (F.words _ hk) (F.words _ hini) (thr_words ps hat hok F.words F.nw hKD) (fun w hw => List.all_eq_true.mp hgood w hw) (hZ.1.kept (fun a ha _ => F.low2 a ha)) (hZ.2.kept (fun a ha _ => F.low2 a ha)) (F.vaS hR hz hl) (by rw [hL.1, F.2.2.1]) d0 d3 d4 d7 (fun x hx => ?_) (by omega) (by omega) (by omega) (by omega) F.locks (fun t ht hs ho => ⟨h, hQ _, hR.kept hs ho, Nat.le_trans hz hs⟩) hl (by omega) (by omega)
  rw [F.tab] at hx
  have h9 : (!covers x (pc + 7)) = true := List.all_eq_true.mp hout x hx
  rw [Bool.not_eq_true'] at h9
  exact h9
end O6S

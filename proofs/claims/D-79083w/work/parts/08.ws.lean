/-! stores to locals, at the machine (printed by gen/mklg.py) -/
section WST
variable {p : Program} {l : Launch} {e : Env} {R : Room} {s : State} {m : MethodId} {args : Array Value} {below : List Frame} {meth : Method} {c : Code} {H : Heap} {locs : List Loc} {cells slots : Nat} {Q : State → Prop} {cc : ByteArray} {pc : Nat} {lz : Array Slot} {rest : List Value}
theorem ws_istore {i : Nat} {x : Int32} {lz' : Array Slot} (hexec : p.tables.exec = Jvm.exec) (hb : c.code = cc) (hd : decode cc pc = .ok (.istore i, 2)) (e' : storeLocals lz i (.int x) = some lz') (k : W p l e R s m args below meth c H locs cells slots Q (F0 m (pc + 2) lz' rest)) : W p l e R s m args below meth c H locs cells slots Q (F0 m pc lz ((.int x) :: rest)) := by
  intro T hT X
  obtain ⟨t, a, b⟩ := k T hT X
  refine ⟨t, ?_, b⟩
  jvm_step X.here [X.here.top, ↓top_set X.here.top, hexec, hb, hd, e', Value.isRef]
  exact a
theorem ws_istore_n {i : Fin 4} {x : Int32} {lz' : Array Slot} (hexec : p.tables.exec = Jvm.exec) (hb : c.code = cc) (hd : decode cc pc = .ok (.istore_n i, 1)) (e' : storeLocals lz (i : Nat) (.int x) = some lz') (k : W p l e R s m args below meth c H locs cells slots Q (F0 m (pc + 1) lz' rest)) : W p l e R s m args below meth c H locs cells slots Q (F0 m pc lz ((.int x) :: rest)) := by
  intro T hT X
  obtain ⟨t, a, b⟩ := k T hT X
  refine ⟨t, ?_, b⟩
  jvm_step X.here [X.here.top, ↓top_set X.here.top, hexec, hb, hd, e', Value.isRef]
  exact a
theorem ws_fstore {i : Nat} {x : UInt32} {lz' : Array Slot} (hexec : p.tables.exec = Jvm.exec) (hb : c.code = cc) (hd : decode cc pc = .ok (.fstore i, 2)) (e' : storeLocals lz i (.float x) = some lz') (k : W p l e R s m args below meth c H locs cells slots Q (F0 m (pc + 2) lz' rest)) : W p l e R s m args below meth c H locs cells slots Q (F0 m pc lz ((.float x) :: rest)) := by
  intro T hT X
  obtain ⟨t, a, b⟩ := k T hT X
  refine ⟨t, ?_, b⟩
  jvm_step X.here [X.here.top, ↓top_set X.here.top, hexec, hb, hd, e', Value.isRef]
  exact a
theorem ws_fstore_n {i : Fin 4} {x : UInt32} {lz' : Array Slot} (hexec : p.tables.exec = Jvm.exec) (hb : c.code = cc) (hd : decode cc pc = .ok (.fstore_n i, 1)) (e' : storeLocals lz (i : Nat) (.float x) = some lz') (k : W p l e R s m args below meth c H locs cells slots Q (F0 m (pc + 1) lz' rest)) : W p l e R s m args below meth c H locs cells slots Q (F0 m pc lz ((.float x) :: rest)) := by
  intro T hT X
  obtain ⟨t, a, b⟩ := k T hT X
  refine ⟨t, ?_, b⟩
  jvm_step X.here [X.here.top, ↓top_set X.here.top, hexec, hb, hd, e', Value.isRef]
  exact a
theorem ws_astore {i : Nat} {x : Nat} {lz' : Array Slot} (hexec : p.tables.exec = Jvm.exec) (hb : c.code = cc) (hd : decode cc pc = .ok (.astore i, 2)) (e' : storeLocals lz i (.ref x) = some lz') (k : W p l e R s m args below meth c H locs cells slots Q (F0 m (pc + 2) lz' rest)) : W p l e R s m args below meth c H locs cells slots Q (F0 m pc lz ((.ref x) :: rest)) := by
  intro T hT X
  obtain ⟨t, a, b⟩ := k T hT X
  refine ⟨t, ?_, b⟩
  jvm_step X.here [X.here.top, ↓top_set X.here.top, hexec, hb, hd, e', Value.isRef]
  exact a
theorem ws_astore_n {i : Fin 4} {x : Nat} {lz' : Array Slot} (hexec : p.tables.exec = Jvm.exec) (hb : c.code = cc) (hd : decode cc pc = .ok (.astore_n i, 1)) (e' : storeLocals lz (i : Nat) (.ref x) = some lz') (k : W p l e R s m args below meth c H locs cells slots Q (F0 m (pc + 1) lz' rest)) : W p l e R s m args below meth c H locs cells slots Q (F0 m pc lz ((.ref x) :: rest)) := by
  intro T hT X
  obtain ⟨t, a, b⟩ := k T hT X
  refine ⟨t, ?_, b⟩
  jvm_step X.here [X.here.top, ↓top_set X.here.top, hexec, hb, hd, e', Value.isRef]
  exact a
theorem ws_astoreN {i : Nat} {lz' : Array Slot} (hexec : p.tables.exec = Jvm.exec) (hb : c.code = cc) (hd : decode cc pc = .ok (.astore i, 2)) (e' : storeLocals lz i .null = some lz') (k : W p l e R s m args below meth c H locs cells slots Q (F0 m (pc + 2) lz' rest)) : W p l e R s m args below meth c H locs cells slots Q (F0 m pc lz (.null :: rest)) := by
  intro T hT X
  obtain ⟨t, a, b⟩ := k T hT X
  refine ⟨t, ?_, b⟩
  jvm_step X.here [X.here.top, ↓top_set X.here.top, hexec, hb, hd, e', Value.isRef]
  exact a
theorem ws_astore_nN {i : Fin 4} {lz' : Array Slot} (hexec : p.tables.exec = Jvm.exec) (hb : c.code = cc) (hd : decode cc pc = .ok (.astore_n i, 1)) (e' : storeLocals lz (i : Nat) .null = some lz') (k : W p l e R s m args below meth c H locs cells slots Q (F0 m (pc + 1) lz' rest)) : W p l e R s m args below meth c H locs cells slots Q (F0 m pc lz (.null :: rest)) := by
  intro T hT X
  obtain ⟨t, a, b⟩ := k T hT X
  refine ⟨t, ?_, b⟩
  jvm_step X.here [X.here.top, ↓top_set X.here.top, hexec, hb, hd, e', Value.isRef]
  exact a
theorem ws_dstore {i : Nat} {x : UInt64} {lz' : Array Slot} (hexec : p.tables.exec = Jvm.exec) (hb : c.code = cc) (hd : decode cc pc = .ok (.dstore i, 2)) (e' : storeLocals lz i (.double x) = some lz') (k : W p l e R s m args below meth c H locs cells slots Q (F0 m (pc + 2) lz' rest)) : W p l e R s m args below meth c H locs cells slots Q (F0 m pc lz (.double x :: rest)) := by
  intro T hT X
  obtain ⟨t, a, b⟩ := k T hT X
  refine ⟨t, ?_, b⟩
  jvm_step X.here [X.here.top, ↓top_set X.here.top, hexec, hb, hd, e']
  exact a
theorem ws_iinc {i : Nat} {n : Int} {x : Int32} {lz' : Array Slot} (hexec : p.tables.exec = Jvm.exec) (hb : c.code = cc) (hd : decode cc pc = .ok (.iinc i n, 3)) (hg : lz[i]? = some (.val (.int x))) (e' : storeLocals lz i (.int (x + Int32.ofInt n)) = some lz') (k : W p l e R s m args below meth c H locs cells slots Q (F0 m (pc + 3) lz' rest)) : W p l e R s m args below meth c H locs cells slots Q (F0 m pc lz rest) := by
  intro T hT X
  obtain ⟨t, a, b⟩ := k T hT X
  refine ⟨t, ?_, b⟩
  jvm_step X.here [X.here.top, ↓top_set X.here.top, hexec, hb, hd, hg, e']
  exact a
end WST

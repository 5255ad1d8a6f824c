/-! EXCEPTIONS: a method that returns or throws; a walk over which a throw stands -/
def FEx (first t : State) (L : List Loc) (k n : Nat) : Prop := first.WarmedH t.vm ∧ first.sameButNew ({ t with vm := first.vm } : State) L k n
def MetX (l : Launch) (y : MethodName) (ws : List Cond) (rm : Room) (Pc : Array Value → State → Prop) (Qc : Array Value → State → Outcome → State → Prop) (mc ms : Nat) (free : Addr → Prop) : Prop :=
  MetFree l y (headSpec ws rm) Pc (fun _ _ _ _ _ => True) (fun a st o t => Qc a st o t ∧ ∃ L, FEx st t L mc ms ∧ ∀ q ∈ L, free q.base)
def MQX (below : List Frame) (Qc : Array Value → State → Outcome → State → Prop) (a : Array Value) (s : State) (mc ms : Nat) (free : Addr → Prop) : State → Prop := fun t =>
  ∃ o, t.status = .running ∧ Ended t below o ∧ Qc a s o t ∧ ∃ L, FEx s t L mc ms ∧ ∀ q ∈ L, free q.base
theorem MQ.x {below : List Frame} {Qc : Array Value → State → Outcome → State → Prop} {a : Array Value} {s : State} {mc ms : Nat} {free : Addr → Prop} {t : State} (h : MQ below Qc a s mc ms free t) : MQX below Qc a s mc ms free t := by
  obtain ⟨o, h1, h2, h3, L, h4, h5⟩ := h
  exact ⟨o, h1, h2, h3, L, h4.2, h5⟩
section EX
variable {p : Program} {l : Launch} {e : Env} {R : Room} {s : State} {m : MethodId} {args : Array Value} {below : List Frame} {meth : Method} {c : Code} {H : Heap} {locs : List Loc} {cells slots : Nat} {Q Q2 : State → Prop}
/-- a throw of x stands over the frame g -/
def WT (p : Program) (l : Launch) (e : Env) (R : Room) (s : State) (m : MethodId) (args : Array Value) (below : List Frame) (meth : Method) (c : Code) (H : Heap) (locs : List Loc) (cells slots : Nat) (Q : State → Prop) (g : JFrame) (x : Addr) : Prop :=
  ∀ T : State, T.heap = H → Stand p l e R s m args below meth c T locs cells slots → ∃ t, Steps p.tables e below ((T.setTop g).pushFrame (.throwing x)) t ∧ Q t
theorem W.mono {g : JFrame} (h : ∀ t, Q t → Q2 t) (k : W p l e R s m args below meth c H locs cells slots Q g) : W p l e R s m args below meth c H locs cells slots Q2 g := by
  intro T hT X
  obtain ⟨t, a, b⟩ := k T hT X
  exact ⟨t, a, h t b⟩
/-- the throw leaves the method -/
theorem WT.out {Qc : Array Value → State → Outcome → State → Prop} {free : Addr → Prop} {g : JFrame} {x : Addr} (hg : g.method = m) (hlocked : g.locked = none) (hentered : g.entered = []) (hout : ∀ z ∈ c.exceptionTable.toList, covers z g.pc = false) (hlocks : meth.locks = false)
    (hq : ∀ t : State, t.heap = H → s.WarmedH t.vm → Qc args s (.threw x) t) (hf : ∀ q ∈ locs, free q.base) : WT p l e R s m args below meth c H locs cells slots (MQX below Qc args s cells slots free) g x := by
  intro T hT X
  obtain ⟨h1, h2, h3, h4, h5⟩ := X.leaveThrown x hg hlocked hentered hout hlocks
  exact ⟨_, h1, .threw x, h2, h3, hq _ hT h4, locs, ⟨h4, h5⟩, hf⟩
/-- the throw is caught in the method -/
theorem WT.catch {g : JFrame} {x : Addr} (hg : g.method = m) {pc : Nat} (hfind : ∀ T : State, T.heap = H → Stand p l e R s m args below meth c T locs cells slots → Finds e ((T.setTop g).pushFrame (.throwing x)) g x (.found pc))
    (kk : W p l e R s m args below meth c H locs cells slots Q { g with pc := pc, stack := [.ref x] }) : WT p l e R s m args below meth c H locs cells slots Q g x := by
  intro T hT X
  obtain ⟨t, a, b⟩ := kk T hT X
  exact ⟨t, X.catchAt x hg (hfind T hT X) a, b⟩
/-- athrow -/
theorem W.athrow {cc : ByteArray} (hexec : p.tables.exec = Jvm.exec) (hb : c.code = cc) {g : JFrame} (hg : g.method = m) {x : Addr} {rest : List Value} (hstack : g.stack = .ref x :: rest) (hdg : decode cc g.pc = .ok (.athrow, 1))
    (kk : WT p l e R s m args below meth c H locs cells slots Q { g with stack := rest } x) : W p l e R s m args below meth c H locs cells slots Q g := by
  intro T hT X
  obtain ⟨t, a, b⟩ := kk T hT X
  refine ⟨t, ?_, b⟩
  subst hg
  subst hb
  jvm_step X.here [hexec, hdg, athrow.wp_sem, hstack]
  exact a
end EX

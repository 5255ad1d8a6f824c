/-! EXCEPTIONS, second part: calls that come back or throw; methods with handlers; a handler whose class may be cold -/
/-- where a call with outcome o leaves the caller's frame g -/
def xTo (U : State) (g : JFrame) (len : Nat) (o : Outcome) : State := match o with
  | .returned v => U.setTop { g with pc := g.pc + len, stack := v.toList ++ g.stack }
  | .threw x => (U.setTop g).pushFrame (.throwing x)
def BackX (l : Launch) (R : Room) (p : Program) (e : Env) (below : List Frame) (s : State) (sargs : Array Value) (y : MethodName) (len W : Nat)
    (Pre : Pt → Array Value → Prop) (Post : Pt → Array Value → Outcome → Pt → Prop) : Prop :=
  ∀ (m : MethodId) (meth : Method) (c : Code) (A : Pt) (g : JFrame) (ig : Instr) (mk : MethodId) (a : Array Value),
    Stand p l e R s m sargs below meth c A.U A.locs A.cells A.slots → g.method = m → g.locals.size = c.maxLocals → decode c.code g.pc = .ok (ig, len) →
    2 * g.monitorRoom + (g.stack.map fun v => v.category).sum ≤ W → A.U.methodNamed? y = some mk → Pre A a →
    ∃ (o : Outcome) (B : Pt), Stand p l e R s m sargs below meth c B.U B.locs B.cells B.slots ∧ Post A a o B ∧ Steps p.tables e below (doInvoke e (A.U.setTop g) [] mk a).1 (xTo B.U g len o)
def PostX (Qc : Array Value → State → Outcome → State → Prop) (mc ms : Nat) (free : Addr → Prop) : Pt → Array Value → Outcome → Pt → Prop := fun A a o B =>
  ∃ (g : JFrame) (mk : MethodId) (t : State) (L : List Loc), B.U.heap = t.heap ∧ Qc a (A.U.calling g mk a) o t ∧ B.locs = A.locs ++ L ∧ (∀ q ∈ L, free q.base) ∧ B.cells = A.cells + mc ∧ B.slots = A.slots + ms
/-- how many locals y has, by the tables -/
def LocX (y : MethodName) (maxL : Nat) (U : State) : Prop := ∃ (mk : MethodId) (me : Method) (co : Code), U.methodNamed? y = some mk ∧ U.vm.method? mk = some me ∧ me.code = some co ∧ co.maxLocals = maxL ∧ parseMethodDescriptor y.desc = some me.sig
theorem LocX.code {y : MethodName} {bytes : ByteArray} {maxL : Nat} {ret : Option FieldType} {a : Array Value} {U : State} (h : (Cond.code y bytes maxL ret).before a U = true) : LocX y maxL U := by
  obtain ⟨mk, hn⟩ := Cond.code_named h
  obtain ⟨me, co, h1, h2, -, h4, -, -, -, h8⟩ := Cond.code_spec hn h
  exact ⟨mk, me, co, hn, h1, h2, h4, h8⟩
theorem LocX.codeW {y : MethodName} {bytes : ByteArray} {maxL : Nat} {ret : Option FieldType} {hh : List (Nat × Nat × Nat × Nat)} {a : Array Value} {U : State} (h : (Cond.codeWith y bytes maxL ret hh).before a U = true) : LocX y maxL U := by
  obtain ⟨mk, me, co, hn, h1, h2, -, h4, -, -, -, h8⟩ := Cond.codeWith_spec h
  exact ⟨mk, me, co, hn, h1, h2, h4, h8⟩
theorem Met.x {l : Launch} {y : MethodName} {ws : List Cond} {rm : Room} {Pc : Array Value → State → Prop} {Qc : Array Value → State → Outcome → State → Prop} {mc ms : Nat} {free : Addr → Prop} (h : Met l y ws rm Pc Qc mc ms free) : MetX l y ws rm Pc Qc mc ms free := by
  intro p e ha hc hk s m args below hf happ hP hK
  obtain ⟨n, o, h1, h2, h3, h4, L, h5, h6⟩ := h p e ha hc hk s m args below hf happ hP hK
  exact ⟨n, o, h1, h2, h3, h4, L, h5.2, h6⟩
section XB
variable {l : Launch} {R : Room} {p : Program} {e : Env} {below : List Frame} {s : State} {sargs : Array Value} {y : MethodName} {len W : Nat}
/-- a callee that has ended, seen from the caller -/
theorem bx_fin {m : MethodId} {meth : Method} {c : Code} {U : State} {Ls : List Loc} {c0 s0 : Nat} {g : JFrame} {ig : Instr} {mk : MethodId} {a : Array Value} (X : Stand p l e R s m sargs below meth c U Ls c0 s0) (hg : g.method = m) (hdg : decode c.code g.pc = .ok (ig, len)) {Qc : Array Value → State → Outcome → State → Prop} {mc ms : Nat} {free : Addr → Prop}
    {o : Outcome} {s₂ : State} {L : List Loc} (hst : Steps p.tables e below (doInvoke e (U.setTop g) [] mk a).1 s₂) (hend : Ended s₂ (U.setTop g).frames o) (hq : Qc a (U.calling g mk a) o s₂) (hfe : FEx (U.calling g mk a) s₂ L mc ms) (hL : ∀ q ∈ L, free q.base) :
    ∃ (o : Outcome) (B : Pt), Stand p l e R s m sargs below meth c B.U B.locs B.cells B.slots ∧ PostX Qc mc ms free ⟨U, Ls, c0, s0⟩ a o B ∧ Steps p.tables e below (doInvoke e (U.setTop g) [] mk a).1 (xTo B.U g len o) := by
  have h : At U g.method c below := by rw [hg]; exact X.here
  rw [State.frames_setTop' g h.top] at hend
  obtain ⟨hWw, e2, q2, q3, q4, q5, q6⟩ := id hfe
  have e3 : s₂ = ({ (U.calling g mk a).setFrames s₂.frames with heap := s₂.heap, slotsUsed := s₂.slotsUsed } : State).setVm s₂.vm := by
    have z : s₂ = ({ s₂ with vm := (U.calling g mk a).vm } : State).setVm s₂.vm := rfl
    rw [e2] at z
    exact z
  have hW' : U.WarmedH s₂.vm := hWw
  obtain ⟨g₀, hg0⟩ := Option.isSome_iff_exists.mp h.top
  obtain ⟨r, hr⟩ := State.topJava?_eq_some.mp hg0
  have hr' : (({ U with heap := s₂.heap, slotsUsed := s₂.slotsUsed } : State).setVm s₂.vm).frames = .java g₀ :: r := hr
  have hs₂ : s₂ = xTo (({ U with heap := s₂.heap, slotsUsed := s₂.slotsUsed } : State).setVm s₂.vm) g len o := by
    cases o with
    | returned v =>
      obtain ⟨c₂, i₂, len₂, hc₂, hd₂, hf₂⟩ := hend
      have hcc : c₂ = c := by
        have h1 : s₂.code? g.method = U.code? g.method := by rw [State.code?_eq, State.code?_eq, hW'.alike.method?]
        exact Option.some.inj (hc₂.symm.trans (h1.trans h.code))
      subst hcc
      have hlen : len₂ = len := by rw [hdg] at hd₂; cases hd₂; rfl
      subst hlen
      refine e3.trans ?_
      show _ = (({ U with heap := s₂.heap, slotsUsed := s₂.slotsUsed } : State).setVm s₂.vm).setTop _
      rw [hf₂, State.calling_eq h.top, State.setFrames_setFrames, State.setTop_of_frames _ hr', hr]
      rfl
    | threw x =>
      have hf₂ : s₂.frames = .throwing x :: .java g :: U.frames.tail := hend
      refine e3.trans ?_
      show _ = ((({ U with heap := s₂.heap, slotsUsed := s₂.slotsUsed } : State).setVm s₂.vm).setTop g).pushFrame (.throwing x)
      rw [hf₂, State.calling_eq h.top, State.setFrames_setFrames, State.pushFrame, State.frames_setTop _ hr', State.setTop_of_frames _ hr', State.setFrames_setFrames, hr]
      rfl
  have hsame : U.sameButNew ({ U with heap := s₂.heap, slotsUsed := s₂.slotsUsed } : State) L mc ms := by
    refine ⟨?_, q2, q3, q4, q5, q6⟩
    obtain ⟨t, ht, -⟩ := State.frames_cons hr
    show ({ U with heap := s₂.heap, slotsUsed := s₂.slotsUsed } : State) = { U.setFrames U.frames with heap := s₂.heap, slotsUsed := s₂.slotsUsed }
    rw [State.setFrames_self ht]
  subst hg
  refine ⟨o, ⟨(({ U with heap := s₂.heap, slotsUsed := s₂.slotsUsed } : State).setVm s₂.vm), Ls ++ L, c0 + mc, s0 + ms⟩,
    ⟨X.admits, X.cas, X.clock, X.frames, X.room, X.hears, X.method, X.code, (X.here.setHeapUsed s₂.heap s₂.slotsUsed).setVm hW'.alike, X.tail, State.WarmedH.trans X.warmed hW', X.limits, X.bytes, X.same.trans (hsame.setVm s.vm)⟩,
    ⟨g, mk, s₂, L, rfl, hq, rfl, hL, rfl, rfl⟩, ?_⟩
  show Steps p.tables e below _ (xTo (({ U with heap := s₂.heap, slotsUsed := s₂.slotsUsed } : State).setVm s₂.vm) g len o)
  rw [← hs₂]
  exact hst
theorem bx_of {ws : List Cond} {rm : Room} {Pc : Array Value → State → Prop} {Qc : Array Value → State → Outcome → State → Prop} {mc ms : Nat} {free : Addr → Prop} {maxL : Nat}
    (hM : MetX l y ws rm Pc Qc mc ms free) (hblind : FrameBlind Pc) (hrc : rm.cells = mc) (hrs : rm.slots = ms)
    (hframes : rm.frames + 1 ≤ R.frames) (hlocals : W + (maxL + 11) + rm.locals ≤ R.locals)
    (hws : ∀ w ∈ ws, ∀ a' U, s.WarmedH U.vm → w.before a' U = true) (hloc : ∀ U, s.WarmedH U.vm → LocX y maxL U) (hinit : ∀ a' U, s.WarmedH U.vm → (Cond.initialized y.cls).before a' U = true) :
    BackX l R p e below s sargs y len W (PreOf R mc ms Pc) (PostX Qc mc ms free) := by
  intro m meth c A g ig mk a X hg hsize hdg hW hn hp
  obtain ⟨U, Ls, c0, s0⟩ := A
  dsimp only [Pt.U, Pt.locs, Pt.cells, Pt.slots] at X hn ⊢
  obtain ⟨hp1, hp2, hp3⟩ := hp
  obtain ⟨mk', me, co, hn', hme, hco, hml, -⟩ := hloc _ X.warmed
  cases hn.symm.trans hn'
  obtain ⟨kY, hkY, -⟩ := className_of_methodNamed hn
  have hini : kY.init = .initialized := Cond.initialized_spec (args := a) (findClass_of_methodNamed hn) hkY (hinit _ _ X.warmed)
  have h : At U g.method c below := by rw [hg]; exact X.here
  have happ : (headSpec ws rm).appliesLoose y e.platform (U.calling g mk a) = true :=
    Spec.appliesLoose_calling (g := g) h hdg hn hkY hini
      (X.room_calling (g := g) (R' := (headSpec ws rm).room) hsize hme hco hframes (by rw [hml]; exact Nat.le_trans (Nat.add_le_add_right (Nat.add_le_add_right hW _) _) hlocals) (by rw [show (headSpec ws rm).room.cells = mc from hrc]; exact hp1) (by rw [show (headSpec ws rm).room.slots = ms from hrs]; exact hp2)) (atoms_intro fun w hw => hws w hw _ _ X.warmed)
  obtain ⟨mid, hmid⟩ := h.above
  have hfr : (U.setTop g).frames = (.java g :: mid) ++ below := by rw [State.frames_setTop' g h.top, hmid]; rfl
  obtain ⟨o, s₂, hst, -, hend, hq, L, hfe, hL⟩ := Steps.callFree hM p X.admits X.cas X.clock (acts := []) hfr happ (hblind _ _ _ _ hp3) trivial
  exact bx_fin X hg hdg hst hend hq hfe hL
/-- what a method asks of the state in which it is called, its class not asked to be initialised -/
def ApZ (S : Spec) (x : MethodName) (pl : Platform) (s : State) (m : MethodId) (args : Array Value) (below : List Frame) : Prop := s.status = .running ∧ s.curStatus? = some .runnable ∧ s.alone = true ∧ s.methodNamed? x = some m ∧ s.hears m below = true ∧ s.hasRoom pl S.room = true ∧ S.pre.before args s = true
def MetZ (l : Launch) (y : MethodName) (ws : List Cond) (rm : Room) (Pc : Array Value → State → Prop) (Qc : Array Value → State → Outcome → State → Prop) (mc ms : Nat) (free : Addr → Prop) : Prop :=
  ∀ (p : Program) e, l.admits e → FairCas e.choices → FairClock e.choices → ∀ s m args below, s.frames = .invoking m args :: below → ApZ (headSpec ws rm) y e.platform s m args below → Pc args s →
    ∃ n o, (∀ k, k < n → Within (stepsAlone p.tables e k s) below) ∧ (stepsAlone p.tables e n s).status = .running ∧ Ended (stepsAlone p.tables e n s) below o ∧ Qc args s o (stepsAlone p.tables e n s) ∧ ∃ L, FEx s (stepsAlone p.tables e n s) L mc ms ∧ ∀ q ∈ L, free q.base
theorem bz_of {ws : List Cond} {rm : Room} {Pc : Array Value → State → Prop} {Qc : Array Value → State → Outcome → State → Prop} {mc ms : Nat} {free : Addr → Prop} {maxL : Nat}
    (hM : MetZ l y ws rm Pc Qc mc ms free) (hblind : FrameBlind Pc) (hrc : rm.cells = mc) (hrs : rm.slots = ms)
    (hframes : rm.frames + 1 ≤ R.frames) (hlocals : W + (maxL + 11) + rm.locals ≤ R.locals)
    (hws : ∀ w ∈ ws, ∀ a' U, s.WarmedH U.vm → w.before a' U = true) (hloc : ∀ U, s.WarmedH U.vm → LocX y maxL U) :
    BackX l R p e below s sargs y len W (PreOf R mc ms Pc) (PostX Qc mc ms free) := by
  intro m meth c A g ig mk a X hg hsize hdg hW hn hp
  obtain ⟨U, Ls, c0, s0⟩ := A
  dsimp only [Pt.U, Pt.locs, Pt.cells, Pt.slots] at X hn ⊢
  obtain ⟨hp1, hp2, hp3⟩ := hp
  obtain ⟨mk', me, co, hn', hme, hco, hml, -⟩ := hloc _ X.warmed
  cases hn.symm.trans hn'
  have h : At U g.method c below := by rw [hg]; exact X.here
  have hroom := X.room_calling (g := g) (args' := a) (R' := (headSpec ws rm).room) hsize hme hco hframes (by rw [hml]; exact Nat.le_trans (Nat.add_le_add_right (Nat.add_le_add_right hW _) _) hlocals) (by rw [show (headSpec ws rm).room.cells = mc from hrc]; exact hp1) (by rw [show (headSpec ws rm).room.slots = ms from hrs]; exact hp2)
  have hcode : (U.calling g mk a).code? g.method = some c := by
    have := h.code
    rw [State.code?_eq] at this ⊢
    simpa [State.calling, State.pushFrame, State.setFrames] using this
  have hf' : (U.calling g mk a).frames = .invoking mk a :: (U.setTop g).frames := by rw [State.frames_calling h.top g mk a, State.frames_setTop' g h.top]
  have happ : ApZ (headSpec ws rm) y e.platform (U.calling g mk a) mk a (U.setTop g).frames := by
    refine ⟨h.running, ?_, ?_, hn, ?_, hroom, ?_⟩
    · simpa [State.calling] using h.runnable
    · simpa [State.calling] using h.alone
    · rw [State.frames_setTop' g h.top]
      simp [State.hears, hcode, hdg, Except.toOption]
    · rw [State.calling_eq h.top, Cond.before_setFrames]
      exact atoms_intro fun w hw => hws w hw _ _ X.warmed
  obtain ⟨mid, hmid⟩ := h.above
  have hfr : (U.setTop g).frames = (.java g :: mid) ++ below := by rw [State.frames_setTop' g h.top, hmid]; rfl
  have hgo : (U.calling g mk a).goesOn := ⟨happ.1, happ.2.1, happ.2.2.1⟩
  obtain ⟨n, o, hw, hr, he, hq, L, hfe, hL⟩ := hM p e X.admits X.cas X.clock (U.calling g mk a) mk a (U.setTop g).frames hf' happ (hblind _ _ _ _ hp3)
  obtain ⟨th, hth⟩ : ∃ t, (U.setTop g).threads[(U.setTop g).cur]? = some t := by
    obtain ⟨t, ht, -⟩ := State.frames_cons (show (U.setTop g).frames = .java g :: (mid ++ below) by rw [hfr]; rfl)
    exact ⟨t, ht⟩
  have hstep : (stepThread p.tables e (U.calling g mk a)).1 = (doInvoke e (U.setTop g) [] mk a).1 := by
    rw [stepThread_invoking hf', doInvoke_state e (U.setTop g) []]
    show _ = (doInvoke e (U.setTop g) [] mk a).1
    have : (U.calling g mk a).setFrames (U.setTop g).frames = U.setTop g := by
      show ((U.setTop g).pushFrame (.invoking mk a)).setFrames (U.setTop g).frames = U.setTop g
      rw [State.pushFrame, State.setFrames_setFrames, State.setFrames_self hth]
    rw [this]
  cases n with
  | zero => exact absurd ⟨[.invoking mk a], hf', by simp, by simp⟩ he.not_within
  | succ k =>
    rw [stepsAlone_succ _ hgo, hstep] at hr he hq hfe
    refine bx_fin X hg hdg ⟨k, rfl, fun j hj => ?_⟩ he hq hfe hL
    have := hw (j + 1) (by omega)
    rw [stepsAlone_succ _ hgo, hstep, hfr] at this
    exact this.weaken
end XB
theorem cf_link {e : Env} {s : State} {f : JFrame} {a : Addr} {ent : ExceptionTableEntry} {cT : ClassId} {cell : Cell} {Q : Handler → Pre} {E : CtlPost} {d : Bool} {acts : List Action} (hcov : covers ent f.pc = true) (h0 : ent.catchType ≠ 0) (hl : s.vm.ClassLinks e.platform f.method.cls ent.catchType cT) (hcell : s.heap[a]? = some cell) (hobj : ∀ k, cell.vm ≠ .statics k)
    (hk : ∃ k, s.vm.classes[cell.cls]? = some k) (hc : ∃ k, s.vm.classes[cT]? = some k) (hfit : s.vm.assignable cell.cls cT = true) : wp (findHandler.go f a [ent]) Q E e d acts s ↔ Q (.found ent.handlerPc) d acts (s.setVm (s.vm.noted f.method.cls ent.catchType (.cls cT))) := by
  simp only [covers] at hcov
  obtain ⟨ha, ht⟩ := (resolveClass_links e.toSetting hl).op (op := VmOp.resolveClass f.method.cls ent.catchType) rfl
  have hal : s.vm.Alike (s.vm.noted f.method.cls ent.catchType (.cls cT)) := (Vm.Alike.refl s.vm).noted _ _ _
  obtain ⟨k1, hk1⟩ := hk
  obtain ⟨k2, hk2⟩ := hc
  obtain ⟨k1', hk1', -⟩ := hal.2.2 _ _ hk1
  obtain ⟨k2', hk2', -⟩ := hal.2.2 _ _ hk2
  have hf2 : (s.vm.noted f.method.cls ent.catchType (.cls cT)).assignable cell.cls cT = true := by rw [hal.assignable]; exact hfit
  simp [findHandler.go, hcov, h0, ha, ht, hcell, hobj, hk1', hk2', hf2, VmOp.dirties, VmOp.acts]
section XR
variable {p : Program} {l : Launch} {e : Env} {R : Room} {s : State} {m : MethodId} {args : Array Value} {below : List Frame} {meth : Method} {c : Code} {H H0 : Heap} {locs : List Loc} {cells slots : Nat} {Q : State → Prop}
/-- a call that comes back or throws -/
def CallRunX (p : Program) (l : Launch) (e : Env) (R : Room) (s : State) (m : MethodId) (args : Array Value) (below : List Frame) (meth : Method) (c : Code) (H : Heap) (locs : List Loc) (cells slots mc ms : Nat) (g : JFrame) (rest : List Value) (Qa : State → Outcome → State → Prop) (free : Addr → Prop) : Prop :=
  ∀ T : State, T.heap = H → Stand p l e R s m args below meth c T locs cells slots → ∃ (o : Outcome) (st₀ t T' : State) (L : List Loc), st₀.heap = H ∧ Stand p l e R s m args below meth c T' (locs ++ L) (cells + mc) (slots + ms) ∧ (∀ q ∈ L, free q.base) ∧ T'.heap = t.heap ∧ Qa st₀ o t ∧
    ∀ tg, Steps p.tables e below (xTo T' { g with stack := rest } 3 o) tg → Steps p.tables e below (T.setTop g) tg
theorem CallRunX.run {mc ms : Nat} {g : JFrame} {rest : List Value} {Qa : State → Outcome → State → Prop} {free : Addr → Prop} (h : CallRunX p l e R s m args below meth c H locs cells slots mc ms g rest Qa free) (hr : ∀ st o t, Qa st o t → ∃ v, o = .returned v) : CallRun p l e R s m args below meth c H locs cells slots mc ms g rest Qa free := by
  intro T hT X
  obtain ⟨o, st₀, t, T', L, h1, h2, h3, h4, h5, h6⟩ := h T hT X
  obtain ⟨v, rfl⟩ := hr _ _ _ h5
  exact ⟨v, st₀, t, T', L, h1, h2, h3, h4, h5, h6⟩
theorem W.runX {y : MethodName} {cc : ByteArray} {maxL nL mc ms index : Nat} {ws : List Cond} {rm : Room} {Pc : Array Value → State → Prop} {Qc : Array Value → State → Outcome → State → Prop} {free : Addr → Prop} {Ts : List Cond} {own C : String} {b : Addr} {As rest : List Value} {g : JFrame}
    (S : CallFix p m c cc nL s args Ts own) (hM : MetX l y ws rm Pc Qc mc ms free) (hrc : rm.cells = mc) (hrs : rm.slots = ms) (hfr : rm.frames + 1 ≤ R.frames) (hlo : 8 + (maxL + 11) + rm.locals ≤ R.locals)
    (hws : ∀ w ∈ ws, ∀ (a' : Array Value) (U : State), s.WarmedH U.vm → w.before a' U = true) (hloc : ∀ U, s.WarmedH U.vm → LocX y maxL U) (hini : (Cond.initialized y.cls).before args s = true)
    (hy : y.cls ≠ "java/lang/invoke/MethodHandle" ∧ y.cls ≠ "java/lang/invoke/VarHandle") (hlen : (parseMethodDescriptor y.desc).map (fun d => d.parameters.length) = some As.length)
    (hlink : (Cond.methodLink own index y).before args s = true) (hin : (Cond.instanceMethod y).before args s = true) (hsel : (Cond.selects C y y).before args s = true)
    (hp : PreV s H C b Pc As) (hg : g.method = m) (hsize : g.locals.size = nL) (hstack : g.stack = As.reverse ++ .ref b :: rest) (hW : 2 * g.monitorRoom + (rest.map fun v => v.category).sum ≤ 8) (hdg : decode cc g.pc = .ok (.invokevirtual index, 3)) (hf : cells + mc ≤ R.cells ∧ slots + ms ≤ R.slots) :
    CallRunX p l e R s m args below meth c H locs cells slots mc ms g rest (Qc (Value.ref b :: As).toArray) free := by
  have hK : BackX l R p e below s args y 3 8 (PreOf R mc ms Pc) (PostX Qc mc ms free) := bx_of hM hp.1 hrc hrs hfr hlo hws hloc (fun a' U hW => word_at hW (Or.inl (by first | rfl | simp [Cond.onTables, Cond.keeps, Cond.steady])) hini)
  obtain ⟨hx, hb, hml, ho, -⟩ := S
  obtain ⟨-, ⟨cellB, hcB, hoB, hclB⟩, hPc⟩ := hp
  intro T hT X
  obtain ⟨mk, methM, hnamed, hmethM, hstM, habM⟩ := Cond.instanceMethod_spec hin
  obtain ⟨mk2, me2, co2, hn2, hm2, -, -, hsig⟩ := hloc s (State.WarmedH.refl s)
  cases hnamed.symm.trans hn2
  cases hmethM.symm.trans hm2
  obtain ⟨c2, r2, m2, q1, q2, q3, q4, kP, hkP, hkPi⟩ := Cond.selects_spec hsel
  cases hclB.symm.trans q1
  cases (State.methodFound?_of_named hnamed hy).symm.trans q2
  cases hnamed.symm.trans q3
  have hselP : selectMethod e.platform s.vm cellB.cls mk = .method mk := by rw [Launch.admits_selectMethod X.admits]; exact q4
  have hl2 : As.length = methM.sig.parameters.length := by rw [hsig] at hlen; exact (Option.some.inj hlen).symm
  obtain ⟨vm₁, X₁, hstep₁⟩ := X.invokevirtual hx ho hlink hnamed hmethM hstM hkP hkPi hy (a := b) (cell := cellB) (by rw [hT]; exact hcB)
    (fun z h => by rw [h] at hoB; cases hoB) hselP hmethM habM hkP hkPi (g := g) hg (argsL := As) (rest := rest) hl2 hstack (by rw [hb]; exact hdg)
  obtain ⟨o, ⟨U', l2, c2', s2⟩, X', ⟨g', mk', t, L, e1, hq, h1, hL, h2, h3⟩, hst⟩ := hK m meth c ⟨T.setVm vm₁, locs, cells, slots⟩ { g with stack := rest } (.invokevirtual index) mk (Value.ref b :: As).toArray X₁ hg (hsize.trans hml.symm) (by rw [hb]; exact hdg) hW (X₁.named hnamed) ⟨hf.1, hf.2, hPc (T.setVm vm₁) hT X₁.warmed⟩
  dsimp only [Pt.U, Pt.locs, Pt.cells, Pt.slots] at X' e1 h1 h2 h3 hst
  subst h1; subst h2; subst h3
  exact ⟨o, (T.setVm vm₁).calling g' mk' (Value.ref b :: As).toArray, t, U', L, hT, X', hL, e1, hq, fun tg h => hstep₁ _ fun acts => by rw [doInvoke_state]; exact hst.trans h⟩
/-- a method's end by an outcome that is named ahead -/
def kX (o : Outcome) (B : Heap → Prop) (A : Nat → Prop) : Array Value → State → Outcome → State → Prop := fun _ st oc t => oc = o ∧ B t.heap ∧ va_F A st t
theorem kk_X {pc : Nat} {ls : Array Slot} {st0 rest : List Value} {o : Outcome} {B : Heap → Prop} {A0 A1 : Nat → Prop} {a : Array Value} {free : Addr → Prop} (hr : CallRunX p l e R s m args below meth c H locs cells slots 0 0 (F0 m pc ls st0) rest (kX o B A1 a) free) (hS : va_S A0 H0 H locs) (hA : ∀ q, A1 q → A0 q) (hf : ∀ q, free q → A0 q)
    (kr : ∀ v, o = .returned v → ∀ (H1 : Heap) (locs1 : List Loc), B H1 → H.size ≤ H1.size → (∀ q : Nat, q < H.size → ¬ A1 q → H1[q]? = H[q]?) → va_S A0 H0 H1 locs1 → W p l e R s m args below meth c H1 locs1 cells slots Q (F0 m (pc + 3) ls (v.toList ++ rest)))
    (kt : ∀ x, o = .threw x → ∀ (H1 : Heap) (locs1 : List Loc), B H1 → H.size ≤ H1.size → (∀ q : Nat, q < H.size → ¬ A1 q → H1[q]? = H[q]?) → va_S A0 H0 H1 locs1 → WT p l e R s m args below meth c H1 locs1 cells slots Q (F0 m pc ls rest) x) : W p l e R s m args below meth c H locs cells slots Q (F0 m pc ls st0) := by
  intro T hT X
  obtain ⟨o', st₀, t, T', L, h0, X', hL, e1, ⟨hv, hb, hz, hk⟩, st⟩ := hr T hT X
  subst hv
  rw [h0] at hz hk
  have hS1 : va_S A0 H0 T'.heap (locs ++ L) := ⟨Nat.le_trans hS.1 (by rw [e1]; exact hz), fun q h1 h2 => by rw [e1, hk q (Nat.lt_of_lt_of_le h1 hS.1) (fun z => h2 (hA q z))]; exact hS.2.1 q h1 h2, fun q hq => by
      rcases List.mem_append.mp hq with h | h
      · exact hS.2.2 q h
      · exact hf _ (hL q h)⟩
  cases o' with
  | returned v =>
    obtain ⟨t2, a1, b1⟩ := kr v rfl T'.heap (locs ++ L) (by rw [e1]; exact hb) (by rw [e1]; exact hz) (fun q h1 h2 => by rw [e1]; exact hk q h1 h2) hS1 T' rfl X'
    exact ⟨t2, st t2 a1, b1⟩
  | threw x =>
    obtain ⟨t2, a1, b1⟩ := kt x rfl T'.heap (locs ++ L) (by rw [e1]; exact hb) (by rw [e1]; exact hz) (fun q h1 h2 => by rw [e1]; exact hk q h1 h2) hS1 T' rfl X'
    exact ⟨t2, st t2 a1, b1⟩
/-- a handler for a class, its pool entry cold or warm -/
theorem WT.catchC {g : JFrame} {x : Addr} {own nm : String} (hg : g.method = m) (hown : s.vm.findClass own = some m.cls) {ent : ExceptionTableEntry} (ht : c.exceptionTable.toList = [ent]) (hcov : covers ent g.pc = true) (h0 : ent.catchType ≠ 0)
    (hlink : (Cond.classLink own ent.catchType nm).before args s = true) {cT : ClassId} {cell : Cell} (hcT : s.vm.findClass nm = some cT) (hcell : H[x]? = some cell) (hobj : cell.vm.isStatics = false) (hfit : s.vm.assignable cell.cls cT = true)
    (kk : W p l e R s m args below meth c H locs cells slots Q { g with pc := ent.handlerPc, stack := [.ref x] }) : WT p l e R s m args below meth c H locs cells slots Q g x := by
  intro T hT X
  have hpl : e.platform.magicAccessors = ({} : Platform).magicAccessors := by rw [X.admits.platform]
  obtain ⟨c', hc', hcl⟩ := Cond.classLink_spec hown hlink e.platform hpl
  cases hcT.symm.trans hc'
  obtain ⟨dk, _, _, kt, hd, _, _, _, _, hkt, _, hopen⟩ := hcl.here
  have hclT : T.vm.ClassLinks e.platform m.cls ent.catchType cT := X.warmed.classLinks hcl
  have hWn : s.WarmedH (T.vm.noted m.cls ent.catchType (.cls cT)) := X.warmed.noted hd hopen (State.rightAt_cls hcl)
  obtain ⟨kt', hkt', -⟩ := X.warmed.alike.2.2 _ _ hkt
  have hfT : T.vm.assignable cell.cls cT = true := by rw [X.warmed.alike.assignable]; exact hfit
  obtain ⟨t, a1, b1⟩ := kk (T.setVm (T.vm.noted m.cls ent.catchType (.cls cT))) hT (X.noted hWn)
  refine ⟨t, ?_, b1⟩
  subst hg
  have hh : At T g.method c below := X.here
  obtain ⟨hgo, hw⟩ := hh.throwing x
  have hvm : ((T.setTop g).pushFrame (.throwing x)).vm = T.vm := Stand.throwing_vm T g x
  have hhp : ((T.setTop g).pushFrame (.throwing x)).heap = T.heap := Stand.throwing_heap T g x
  have find : ∀ (Q : Handler → Pre) (E : CtlPost) (d : Bool) (acts : List Action), wp (findHandler g x) Q E e d acts ((T.setTop g).pushFrame (.throwing x)) ↔ Q (.found ent.handlerPc) d acts (((T.setTop g).pushFrame (.throwing x)).setVm (T.vm.noted g.method.cls ent.catchType (.cls cT))) := by
    intro Q E d acts
    rw [W.findHandler_eq (meth := meth) (code := c) (by rw [hvm]; exact X.method') X.code, ht]
    have := cf_link (e := e) (s := (T.setTop g).pushFrame (.throwing x)) (f := g) (a := x) (Q := Q) (E := E) (d := d) (acts := acts) hcov h0 (by rw [hvm]; exact hclT) (by rw [hhp, hT]; exact hcell) (VmData.ne_statics_of hobj) (by rw [hvm]; exact Vm.classAt_of_assignable hfT ⟨kt', hkt'⟩) (by rw [hvm]; exact ⟨kt', hkt'⟩) (by rw [hvm]; exact hfT)
    rw [hvm] at this
    exact this
  refine Steps.head hgo hw ?_
  have hstep : (stepThrowing e ((T.setTop g).pushFrame (.throwing x)) x (.java g :: T.frames.tail)).Is ((((T.setTop g).pushFrame (.throwing x)).setVm (T.vm.noted g.method.cls ent.catchType (.cls cT))).setFrames (.java { g with pc := ent.handlerPc, stack := [.ref x] } :: T.frames.tail)) [] := by
    simp only [stepThrowing, searchFrame, vmDo]
    generalize hr : Sem.go _ e false [] ((T.setTop g).pushFrame (.throwing x)) = res
    obtain ⟨as, rfl, ha⟩ := Sem.eq_ok_of hr (a := Handler.found ent.handlerPc) (s' := ((T.setTop g).pushFrame (.throwing x)).setVm (T.vm.noted g.method.cls ent.catchType (.cls cT))) (acts' := []) (by simp [find _ _ _ _])
    exact ⟨rfl, ha⟩
  rw [stepThread_throwing (frames_entered hh.top _), hstep.1]
  obtain ⟨g₀, hg0⟩ := Option.isSome_iff_exists.mp hh.top
  obtain ⟨r, hr⟩ := State.topJava?_eq_some.mp hg0
  have hr' : (T.setVm (T.vm.noted g.method.cls ent.catchType (.cls cT))).frames = .java g₀ :: r := hr
  rw [State.setTop_of_frames _ hr'] at a1
  have hsv : ∀ (u : State) (vm' : Vm) (F G : List Frame), ((u.setFrames F).setVm vm').setFrames G = (u.setVm vm').setFrames G := fun u vm' F G => by
    have h1 : (u.setFrames F).setVm vm' = (u.setVm vm').setFrames F := rfl
    rw [h1, State.setFrames_setFrames]
  rw [hr, List.tail_cons, State.pushFrame, hsv, State.setTop_of_frames _ hr, hsv]
  exact a1
end XR
/-- a method that may throw, its table of handlers empty: its start -/
theorem kk_startX {l : Launch} {y : MethodName} {cc : ByteArray} {nL : Nat} {ret : Option FieldType} {rm : Room} {av : List Value} {B : State → Prop} {Qc : Array Value → State → Outcome → State → Prop} {mc ms : Nat} {free : Addr → Prop} (hy : plainName y.cls = true) (hav : (lg_sl av).length ≤ nL)
    (body : ∀ p e s m below meth c, CallFix p m c cc nL s av.toArray lw_all y.cls → meth.sig.returnType = ret → meth.locks = false → (∀ (z : ExceptionTableEntry) , z ∈ c.exceptionTable.toList → False) → B s → ∀ ls, lv_has ls nL (lv_args 0 av) → W p l e rm s m av.toArray below meth c s.heap [] 0 0 (MQX below Qc av.toArray s mc ms free) (F0 m 0 ls [])) : MetX l y (ws_ y cc nL ret) rm (va_Pc av B) Qc mc ms free := by
  refine MetFree.of_bodyS (code := cc) (maxLocals := nL) (ret := ret) hy ?_ ?_
  · intro args s m h hn
    obtain ⟨meth, c, h1, h2, h3, h4, h5, h6, -, -⟩ := Cond.code_spec hn (atoms_spec (ws := ws_ y cc nL ret) h _ List.mem_cons_self)
    exact ⟨meth, c, h1, h2, h3, h4, h5, h6⟩
  · intro p e s m args below meth c s₁ B0 hml hP _
    obtain ⟨rfl, hB⟩ := hP
    have hh0 : s₁.heap = s.heap := by rw [B0.state]; rfl
    have hts := atoms_spec (ws := ws_ y cc nL ret) B0.pre
    obtain ⟨me2, c2, h1, h2, -, -, -, -, hex, -⟩ := Cond.code_spec B0.named (hts _ List.mem_cons_self)
    have X0 := Stand.of_body B0
    cases B0.method.symm.trans h1
    cases h2.symm.trans X0.code
    have hts : ∀ w ∈ lw_all, w.before _ s = true := fun w h => hts w (List.mem_cons_of_mem _ h)
    have hl := lv_entry av (n := nL) hav
    have hb := body p e s m below meth c ⟨B0.exec, B0.bytes, hml, findClass_of_methodNamed B0.named, hts⟩ B0.returns B0.notSynchronized (fun z hz => by
      have : c.exceptionTable = #[] := by simpa using hex
      rw [this] at hz; simp at hz) hB _ hl
    obtain ⟨t, a1, o, b1, b2, b3⟩ := hb s₁ hh0 X0
    rw [← lg_entry_eq] at a1
    exact ⟨t, o, a1, b1, b2, b3⟩
/-- a method with handlers that comes back: its start -/
theorem kk_startW {l : Launch} {y : MethodName} {cc : ByteArray} {nL : Nat} {ret : Option FieldType} {hh : List (Nat × Nat × Nat × Nat)} {rm : Room} {av : List Value} {B : State → Prop} {Qc : Array Value → State → Outcome → State → Prop} {mc ms : Nat} {free : Addr → Prop} (hy : plainName y.cls = true) (hav : (lg_sl av).length ≤ nL)
    (body : ∀ p e s m below meth c, CallFix p m c cc nL s av.toArray lw_all y.cls → meth.sig.returnType = ret → meth.locks = false → c.exceptionTable.toList.map (fun h => (h.startPc, h.endPc, h.handlerPc, h.catchType)) = hh → B s → ∀ ls, lv_has ls nL (lv_args 0 av) → W p l e rm s m av.toArray below meth c s.heap [] 0 0 (MQ below Qc av.toArray s mc ms free) (F0 m 0 ls [])) : Met l y (wsW_ y cc nL ret hh) rm (va_Pc av B) Qc mc ms free := by
  refine va_MetW (cc := cc) (maxL := nL) (ret := ret) (hh := hh) hy rfl ?_
  intro p e s m args below meth c s₁ B0 hml hv
  obtain ⟨rfl, hB⟩ := hv
  have hts := atoms_spec (ws := wsW_ y cc nL ret hh) B0.pre
  obtain ⟨m2, me2, c2, hn2, h1, h2, -, -, hex, -⟩ := Cond.codeWith_spec (hts _ List.mem_cons_self)
  have X0 := Stand.of_body B0
  cases B0.named.symm.trans hn2
  cases B0.method.symm.trans h1
  cases h2.symm.trans X0.code
  have hts : ∀ w ∈ lw_all, w.before _ s = true := fun w h => hts w (List.mem_cons_of_mem _ h)
  have hl := lv_entry av (n := nL) hav
  rw [lg_entry_eq]
  exact body p e s m below meth c ⟨B0.exec, B0.bytes, hml, findClass_of_methodNamed B0.named, hts⟩ B0.returns B0.notSynchronized hex hB _ hl
theorem kk_startZ {l : Launch} {y : MethodName} {cc : ByteArray} {nL : Nat} {ret : Option FieldType} {rm : Room} {av : List Value} {B : State → Prop} {Qc : Array Value → State → Outcome → State → Prop} {mc ms : Nat} {free : Addr → Prop} (hy : plainName y.cls = true) (hav : (lg_sl av).length ≤ nL)
    (body : ∀ p e s m below meth c, CallFix p m c cc nL s av.toArray lw_all y.cls → meth.sig.returnType = ret → meth.locks = false → B s → ∀ ls, lv_has ls nL (lv_args 0 av) → W p l e rm s m av.toArray below meth c s.heap [] 0 0 (MQ below Qc av.toArray s mc ms free) (F0 m 0 ls [])) : MetZ l y (ws_ y cc nL ret) rm (va_Pc av B) Qc mc ms free := by
  intro p e ha hca hck s m args below hf happ hP
  obtain ⟨hrun, hable, halone, hname, hhears, hroom, hpre⟩ := happ
  obtain ⟨rfl, hB⟩ := hP
  have hts := atoms_spec (ws := ws_ y cc nL ret) hpre
  obtain ⟨meth, c, hmeth, hcode, hbytes, hlocals, hret, hlocks, -, -⟩ := Cond.code_spec hname (hts _ List.mem_cons_self)
  have hcur := State.cur_lt_of_frames hf
  have hf1 : (s.setFrames (.java (entryFrame m av.toArray nL) :: below)).frames = .java (entryFrame m av.toArray nL) :: below := State.frames_setFrames _ hcur
  have ht1 := State.topJava?_of_frames hf1
  have hplain : (s.setFrames (.java (entryFrame m av.toArray nL) :: below)).plainMethod m := State.plainMethod.of_named (s := s) (plainFor_of_name hy) hname hmeth
  have hAt : At (s.setFrames (.java (entryFrame m av.toArray nL) :: below)) m c below :=
    ⟨by rw [ht1]; rfl, ⟨[], by rw [hf1]; rfl⟩, hrun, by simpa using hable, by simpa using halone, by rw [State.code?_eq]; simp [State.setFrames, hmeth, hcode], hplain⟩
  have hstep : (stepThread p.tables e s).1 = (s.setFrames (.java (entryFrame m av.toArray nL) :: below)).setTop (entryFrame m av.toArray nL) := by
    have hfull : e.platform.stackFull (s.setFrames below).me (s.setFrames below).frames c.maxLocals = false := by
      obtain ⟨-, h1, -, h2⟩ := State.hasRoom_stack hroom
      rw [hf, List.length_cons] at h1
      rw [State.localsInUse_invoking hf hmeth hcode] at h2
      have hw := stackUse_le_stackWeight below
      rw [State.frames_setFrames _ hcur]
      exact Platform.stackFull_eq_false (by rw [State.stackLimits_setFrames]; omega) (by rw [State.stackLimits_setFrames]; omega)
    rw [stepThread_invoking hf, (doInvoke_java (s := s.setFrames below) (e := e) (meth := meth) (code := c) hmeth hcode hlocks hfull).1, State.setTop_self ht1]
    simp only [State.pushFrame, State.frames_setFrames _ hcur, State.setFrames_setFrames, hlocals, entryFrame]
  obtain ⟨t0, ht0, -⟩ := State.frames_cons hf
  have X0 : Stand p l e rm s m av.toArray below meth c (s.setFrames (.java (entryFrame m av.toArray nL) :: below)) [] 0 0 :=
    ⟨ha, hca, hck, hf, hroom, hhears, hmeth, hcode, hAt, by rw [hf1]; rfl, State.WarmedH.refl s, by rw [State.stackLimits_setFrames], by rw [State.stackBytes_setFrames], (State.sameButNew.refl s ht0).setFrames (.java (entryFrame m av.toArray nL) :: below) hcur⟩
  have hl := lv_entry av (n := nL) hav
  have hb := body p e s m below meth c ⟨by cases p <;> rfl, hbytes, hlocals, findClass_of_methodNamed hname, fun w h => hts w (List.mem_cons_of_mem _ h)⟩ hret hlocks hB _ hl
  rw [← lg_entry_eq] at hb
  obtain ⟨t, a1, o, b1, b2, b3, L, b4, b5⟩ := hb (s.setFrames (.java (entryFrame m av.toArray nL) :: below)) rfl X0
  obtain ⟨n, hn, hw⟩ := Steps.head (tb := p.tables) (e := e) ⟨hrun, hable, halone⟩ ⟨[.invoking m av.toArray], hf, by simp, by simp⟩ (hstep ▸ a1)
  exact ⟨n, o, hw, hn ▸ b1, hn ▸ b2, hn ▸ b3, L, hn ▸ b4.2, b5⟩

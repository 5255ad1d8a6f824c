/-! BASE: rooms, contracts' ends, starts and calls, in forms that the printed walks use -/
abbrev Rw : Type := Nat → Int32
def rmF (n : Nat) : Room := { frames := n, cells := 0, slots := 0, locals := 38 * n }
/-- room for a call of level k (its frames + 1), cells and slots made so far -/
def kRm (R : Room) (k cells slots : Nat) : Prop := k ≤ R.frames ∧ 38 * k ≤ R.locals ∧ cells ≤ R.cells ∧ slots ≤ R.slots
theorem rm_ok {k n : Nat} (h : k ≤ n) : kRm (rmF n) k 0 0 := ⟨h, Nat.mul_le_mul_left 38 h, Nat.le_refl 0, Nat.le_refl 0⟩
/-- a method's end: it returned r, the heap is as it was -/
def kR (r : Option Value) : Array Value → State → Outcome → State → Prop := fun _ st o t => o = .returned r ∧ t.heap = st.heap
/-- a method's end: it returned r, the heap holds B, outside of A nothing has changed -/
def kW (r : Option Value) (B : Heap → Prop) (A : Nat → Prop) : Array Value → State → Outcome → State → Prop := fun _ st o t => o = .returned r ∧ B t.heap ∧ va_F A st t
def b2i (P : Prop) [Decidable P] : Int32 := if P then 1 else 0
theorem b2i_t {P : Prop} [Decidable P] (h : P) : b2i P = 1 := if_pos h
theorem b2i_f {P : Prop} [Decidable P] (h : ¬ P) : b2i P = 0 := if_neg h
theorem b2i_0 {P : Prop} [Decidable P] (h : b2i P = 0) : ¬ P := fun q => by rw [b2i_t q] at h; exact absurd h (by decide)
theorem b2i_1 {P : Prop} [Decidable P] (h : ¬ b2i P = 0) : P := by
  by_cases q : P
  · exact q
  · exact absurd (b2i_f q) h
theorem b2i_nz {P : Prop} [Decidable P] : narrow .boolean (.int (b2i P)) = .int (b2i P) := by
  by_cases q : P
  · rw [b2i_t q]; rfl
  · rw [b2i_f q]; rfl
theorem b2i_fz {P : Prop} [Decidable P] : fits .boolean (.int (b2i P)) = true := by
  by_cases q : P
  · rw [b2i_t q]; rfl
  · rw [b2i_f q]; rfl
theorem b2i_iff {P P' : Prop} [Decidable P] [Decidable P'] (h : P ↔ P') : b2i P = b2i P' := by
  by_cases q : P
  · rw [b2i_t q, b2i_t (h.mp q)]
  · rw [b2i_f q, b2i_f (fun z => q (h.mpr z))]
/-- a method's start -/
theorem kk_start {l : Launch} {y : MethodName} {cc : ByteArray} {nL : Nat} {ret : Option FieldType} {rm : Room} {av : List Value} {B : State → Prop} {Qc : Array Value → State → Outcome → State → Prop} {mc ms : Nat} {free : Addr → Prop} (hy : plainName y.cls = true) (hav : (lg_sl av).length ≤ nL)
    (body : ∀ p e s m below meth c, CallFix p m c cc nL s av.toArray lw_all y.cls → meth.sig.returnType = ret → meth.locks = false → (y.name = "<init>" → meth.name = "<init>") → B s → ∀ ls, lv_has ls nL (lv_args 0 av) → W p l e rm s m av.toArray below meth c s.heap [] 0 0 (MQ below Qc av.toArray s mc ms free) (F0 m 0 ls [])) : Met l y (ws_ y cc nL ret) rm (va_Pc av B) Qc mc ms free := by
  refine Met.ofW (cc := cc) (maxL := nL) (ret := ret) hy rfl ?_
  intro p e s m args below meth c s₁ B0 hml hv
  obtain ⟨rfl, hB⟩ := hv
  have hts := atoms_spec (ws := ws_ y cc nL ret) B0.pre
  have hts : ∀ w ∈ lw_all, w.before _ s = true := fun w h => hts w (List.mem_cons_of_mem _ h)
  have hl := lv_entry av (n := nL) hav
  rw [lg_entry_eq]
  exact body p e s m below meth c ⟨B0.exec, B0.bytes, hml, findClass_of_methodNamed B0.named, hts⟩ B0.returns B0.notSynchronized (fun h => (name_of_methodNamed B0.named B0.method).1.trans h) hB _ hl
section KB
variable {p : Program} {l : Launch} {e : Env} {R : Room} {s : State} {m : MethodId} {args : Array Value} {below : List Frame} {meth : Method} {c : Code} {H : Heap} {locs : List Loc} {cells slots : Nat} {Q : State → Prop}
variable {cc : ByteArray} {pc nL : Nat} {ls : Array Slot} {rest st0 : List Value} {own : String} {a : Array Value} {free A0 A1 : Nat → Prop} {H0 : Heap}
theorem kk_Ri {v : Int32} (hr : CallRun p l e R s m args below meth c H locs cells slots 0 0 (F0 m pc ls st0) rest (kR (some (.int v)) a) (fun _ => False)) (kk : W p l e R s m args below meth c H locs cells slots Q (F0 m (pc + 3) ls (.int v :: rest))) : W p l e R s m args below meth c H locs cells slots Q (F0 m pc ls st0) := by
  intro T hT X
  obtain ⟨v, st₀, t, T', L, h0, X', hL, e1, ⟨hv, hh⟩, st⟩ := hr T hT X
  cases hv
  obtain ⟨t2, a1, b1⟩ := kk T' (by rw [e1, hh, h0]) (Stand.forget X' (fun q h => (hL q h).elim))
  exact ⟨t2, st t2 a1, b1⟩
theorem kk_Rl {v : Int64} (hr : CallRun p l e R s m args below meth c H locs cells slots 0 0 (F0 m pc ls st0) rest (kR (some (.long v)) a) (fun _ => False)) (kk : W p l e R s m args below meth c H locs cells slots Q (F0 m (pc + 3) ls (.long v :: rest))) : W p l e R s m args below meth c H locs cells slots Q (F0 m pc ls st0) := by
  intro T hT X
  obtain ⟨v, st₀, t, T', L, h0, X', hL, e1, ⟨hv, hh⟩, st⟩ := hr T hT X
  cases hv
  obtain ⟨t2, a1, b1⟩ := kk T' (by rw [e1, hh, h0]) (Stand.forget X' (fun q h => (hL q h).elim))
  exact ⟨t2, st t2 a1, b1⟩
theorem kk_Ra {v : Value} (hr : CallRun p l e R s m args below meth c H locs cells slots 0 0 (F0 m pc ls st0) rest (kR (some v) a) (fun _ => False)) (kk : W p l e R s m args below meth c H locs cells slots Q (F0 m (pc + 3) ls (v :: rest))) : W p l e R s m args below meth c H locs cells slots Q (F0 m pc ls st0) := by
  intro T hT X
  obtain ⟨v, st₀, t, T', L, h0, X', hL, e1, ⟨hv, hh⟩, st⟩ := hr T hT X
  cases hv
  obtain ⟨t2, a1, b1⟩ := kk T' (by rw [e1, hh, h0]) (Stand.forget X' (fun q h => (hL q h).elim))
  exact ⟨t2, st t2 a1, b1⟩
theorem kk_Rv (hr : CallRun p l e R s m args below meth c H locs cells slots 0 0 (F0 m pc ls st0) rest (kR none a) (fun _ => False)) (kk : W p l e R s m args below meth c H locs cells slots Q (F0 m (pc + 3) ls rest)) : W p l e R s m args below meth c H locs cells slots Q (F0 m pc ls st0) := by
  intro T hT X
  obtain ⟨v, st₀, t, T', L, h0, X', hL, e1, ⟨hv, hh⟩, st⟩ := hr T hT X
  cases hv
  obtain ⟨t2, a1, b1⟩ := kk T' (by rw [e1, hh, h0]) (Stand.forget X' (fun q h => (hL q h).elim))
  exact ⟨t2, st t2 a1, b1⟩
/-- a call that changes cells of A1 alone -/
theorem kk_Wi {v : Int32} {B : Heap → Prop} (hr : CallRun p l e R s m args below meth c H locs cells slots 0 0 (F0 m pc ls st0) rest (kW (some (.int v)) B A1 a) free) (hS : va_S A0 H0 H locs) (hA : ∀ q, A1 q → A0 q) (hf : ∀ q, free q → A0 q)
    (kk : ∀ (H1 : Heap) (locs1 : List Loc), B H1 → H.size ≤ H1.size → (∀ q : Nat, q < H.size → ¬ A1 q → H1[q]? = H[q]?) → va_S A0 H0 H1 locs1 → W p l e R s m args below meth c H1 locs1 cells slots Q (F0 m (pc + 3) ls (.int v :: rest))) : W p l e R s m args below meth c H locs cells slots Q (F0 m pc ls st0) := by
  intro T hT X
  obtain ⟨v, st₀, t, T', L, h0, X', hL, e1, ⟨hv, hb, hz, hk⟩, st⟩ := hr T hT X
  cases hv
  rw [h0] at hz hk
  obtain ⟨t2, a1, b1⟩ := kk T'.heap (locs ++ L) (by rw [e1]; exact hb) (by rw [e1]; exact hz) (fun q h1 h2 => by rw [e1]; exact hk q h1 h2)
    ⟨Nat.le_trans hS.1 (by rw [e1]; exact hz), fun q h1 h2 => by rw [e1, hk q (Nat.lt_of_lt_of_le h1 hS.1) (fun z => h2 (hA q z))]; exact hS.2.1 q h1 h2, fun q hq => by
      rcases List.mem_append.mp hq with h | h
      · exact hS.2.2 q h
      · exact hf _ (hL q h)⟩ T' rfl X'
  exact ⟨t2, st t2 a1, b1⟩
theorem kk_Wv {B : Heap → Prop} (hr : CallRun p l e R s m args below meth c H locs cells slots 0 0 (F0 m pc ls st0) rest (kW none B A1 a) free) (hS : va_S A0 H0 H locs) (hA : ∀ q, A1 q → A0 q) (hf : ∀ q, free q → A0 q)
    (kk : ∀ (H1 : Heap) (locs1 : List Loc), B H1 → H.size ≤ H1.size → (∀ q : Nat, q < H.size → ¬ A1 q → H1[q]? = H[q]?) → va_S A0 H0 H1 locs1 → W p l e R s m args below meth c H1 locs1 cells slots Q (F0 m (pc + 3) ls rest)) : W p l e R s m args below meth c H locs cells slots Q (F0 m pc ls st0) := by
  intro T hT X
  obtain ⟨v, st₀, t, T', L, h0, X', hL, e1, ⟨hv, hb, hz, hk⟩, st⟩ := hr T hT X
  cases hv
  rw [h0] at hz hk
  obtain ⟨t2, a1, b1⟩ := kk T'.heap (locs ++ L) (by rw [e1]; exact hb) (by rw [e1]; exact hz) (fun q h1 h2 => by rw [e1]; exact hk q h1 h2)
    ⟨Nat.le_trans hS.1 (by rw [e1]; exact hz), fun q h1 h2 => by rw [e1, hk q (Nat.lt_of_lt_of_le h1 hS.1) (fun z => h2 (hA q z))]; exact hS.2.1 q h1 h2, fun q hq => by
      rcases List.mem_append.mp hq with h | h
      · exact hS.2.2 q h
      · exact hf _ (hL q h)⟩ T' rfl X'
  exact ⟨t2, st t2 a1, b1⟩
/-- returns, heap as it was -/
theorem kk_iretR {v v' : Int32} (S : CallFix p m c cc nL s args lw_all own) (hr : meth.sig.returnType = some .int) (hlocks : meth.locks = false) (hH : H = s.heap) (hL : locs = []) (hv : v = v') (hdg : decode cc pc = .ok (.ireturn, 1)) : W p l e R s m args below meth c H locs cells slots (MQ below (kR (some (.int v'))) args s cells slots (fun _ => False)) (F0 m pc ls [.int v]) := by
  subst hv
  exact W.iret S.1 S.2.1 hr (fun t ht _ => ⟨rfl, ht.trans hH⟩) (fun q hq => by rw [hL] at hq; cases hq) hdg hlocks
theorem kk_zretR {P P' : Prop} [Decidable P] [Decidable P'] {ty : FieldType} (S : CallFix p m c cc nL s args lw_all own) (hr : meth.sig.returnType = some .boolean) (hlocks : meth.locks = false) (hH : H = s.heap) (hL : locs = []) (hv : P ↔ P') (hdg : decode cc pc = .ok (.ireturn, 1)) : W p l e R s m args below meth c H locs cells slots (MQ below (kR (some (.int (b2i P')))) args s cells slots (fun _ => False)) (F0 m pc ls [.int (b2i P)]) := by
  rw [b2i_iff hv]
  exact W.zret S.1 S.2.1 hr b2i_nz (fun t ht _ => ⟨rfl, ht.trans hH⟩) (fun q hq => by rw [hL] at hq; cases hq) hdg hlocks
theorem kk_ztR {P' : Prop} [Decidable P'] (S : CallFix p m c cc nL s args lw_all own) (hr : meth.sig.returnType = some .boolean) (hlocks : meth.locks = false) (hH : H = s.heap) (hL : locs = []) (hv : P') (hdg : decode cc pc = .ok (.ireturn, 1)) : W p l e R s m args below meth c H locs cells slots (MQ below (kR (some (.int (b2i P')))) args s cells slots (fun _ => False)) (F0 m pc ls [.int 1]) := by
  rw [b2i_t hv]
  exact W.zret S.1 S.2.1 hr rfl (fun t ht _ => ⟨rfl, ht.trans hH⟩) (fun q hq => by rw [hL] at hq; cases hq) hdg hlocks
theorem kk_zfR {P' : Prop} [Decidable P'] (S : CallFix p m c cc nL s args lw_all own) (hr : meth.sig.returnType = some .boolean) (hlocks : meth.locks = false) (hH : H = s.heap) (hL : locs = []) (hv : ¬ P') (hdg : decode cc pc = .ok (.ireturn, 1)) : W p l e R s m args below meth c H locs cells slots (MQ below (kR (some (.int (b2i P')))) args s cells slots (fun _ => False)) (F0 m pc ls [.int 0]) := by
  rw [b2i_f hv]
  exact W.zret S.1 S.2.1 hr rfl (fun t ht _ => ⟨rfl, ht.trans hH⟩) (fun q hq => by rw [hL] at hq; cases hq) hdg hlocks
theorem kk_vretR (S : CallFix p m c cc nL s args lw_all own) (hr : meth.sig.returnType = none) (hlocks : meth.locks = false) (hH : H = s.heap) (hL : locs = []) (hdg : decode cc pc = .ok (.return_, 1)) : W p l e R s m args below meth c H locs cells slots (MQ below (kR none) args s cells slots (fun _ => False)) (F0 m pc ls []) :=
  W.vret S.1 S.2.1 hr (fun t ht _ => ⟨rfl, ht.trans hH⟩) (fun q hq => by rw [hL] at hq; cases hq) hdg hlocks
/-- returns, the world written -/
theorem kk_iretW {v v' : Int32} {B : Heap → Prop} {A : Nat → Prop} (S : CallFix p m c cc nL s args lw_all own) (hr : meth.sig.returnType = some .int) (hlocks : meth.locks = false) (hS : va_S A s.heap H locs) (hB : B H) (hv : v = v') (hdg : decode cc pc = .ok (.ireturn, 1)) : W p l e R s m args below meth c H locs cells slots (MQ below (kW (some (.int v')) B A) args s cells slots A) (F0 m pc ls [.int v]) := by
  subst hv
  exact W.iret S.1 S.2.1 hr (fun t ht _ => ⟨rfl, by rw [ht]; exact hB, hS.F ht⟩) hS.2.2 hdg hlocks
theorem kk_lretW {v v' : Int64} {B : Heap → Prop} {A : Nat → Prop} (S : CallFix p m c cc nL s args lw_all own) (hr : meth.sig.returnType = some .long) (hlocks : meth.locks = false) (hS : va_S A s.heap H locs) (hB : B H) (hv : v = v') (hdg : decode cc pc = .ok (.lreturn, 1)) : W p l e R s m args below meth c H locs cells slots (MQ below (kW (some (.long v')) B A) args s cells slots A) (F0 m pc ls [.long v]) := by
  subst hv
  exact W.lret S.1 S.2.1 hr (fun t ht _ => ⟨rfl, by rw [ht]; exact hB, hS.F ht⟩) hS.2.2 hdg hlocks
theorem kk_ztW {P' : Prop} [Decidable P'] {B : Heap → Prop} {A : Nat → Prop} (S : CallFix p m c cc nL s args lw_all own) (hr : meth.sig.returnType = some .boolean) (hlocks : meth.locks = false) (hS : va_S A s.heap H locs) (hB : B H) (hv : P') (hdg : decode cc pc = .ok (.ireturn, 1)) : W p l e R s m args below meth c H locs cells slots (MQ below (kW (some (.int (b2i P'))) B A) args s cells slots A) (F0 m pc ls [.int 1]) := by
  rw [b2i_t hv]
  exact W.zret S.1 S.2.1 hr rfl (fun t ht _ => ⟨rfl, by rw [ht]; exact hB, hS.F ht⟩) hS.2.2 hdg hlocks
theorem kk_zfW {P' : Prop} [Decidable P'] {B : Heap → Prop} {A : Nat → Prop} (S : CallFix p m c cc nL s args lw_all own) (hr : meth.sig.returnType = some .boolean) (hlocks : meth.locks = false) (hS : va_S A s.heap H locs) (hB : B H) (hv : ¬ P') (hdg : decode cc pc = .ok (.ireturn, 1)) : W p l e R s m args below meth c H locs cells slots (MQ below (kW (some (.int (b2i P'))) B A) args s cells slots A) (F0 m pc ls [.int 0]) := by
  rw [b2i_f hv]
  exact W.zret S.1 S.2.1 hr rfl (fun t ht _ => ⟨rfl, by rw [ht]; exact hB, hS.F ht⟩) hS.2.2 hdg hlocks
theorem kk_zretW {P P' : Prop} [Decidable P] [Decidable P'] {B : Heap → Prop} {A : Nat → Prop} (S : CallFix p m c cc nL s args lw_all own) (hr : meth.sig.returnType = some .boolean) (hlocks : meth.locks = false) (hS : va_S A s.heap H locs) (hB : B H) (hv : P ↔ P') (hdg : decode cc pc = .ok (.ireturn, 1)) : W p l e R s m args below meth c H locs cells slots (MQ below (kW (some (.int (b2i P'))) B A) args s cells slots A) (F0 m pc ls [.int (b2i P)]) := by
  rw [b2i_iff hv]
  exact W.zret S.1 S.2.1 hr b2i_nz (fun t ht _ => ⟨rfl, by rw [ht]; exact hB, hS.F ht⟩) hS.2.2 hdg hlocks
theorem kk_vretW {B : Heap → Prop} {A : Nat → Prop} (S : CallFix p m c cc nL s args lw_all own) (hr : meth.sig.returnType = none) (hlocks : meth.locks = false) (hS : va_S A s.heap H locs) (hB : B H) (hdg : decode cc pc = .ok (.return_, 1)) : W p l e R s m args below meth c H locs cells slots (MQ below (kW none B A) args s cells slots A) (F0 m pc ls []) :=
  W.vret S.1 S.2.1 hr (fun t ht _ => ⟨rfl, by rw [ht]; exact hB, hS.F ht⟩) hS.2.2 hdg hlocks
/-- branches on a truth value -/
theorem kb_ifeq {P : Prop} [Decidable P] (S : CallFix p m c cc nL s args lw_all own) {off : Int} {tgt : Nat} (hdg : decode cc pc = .ok (.ifCond .eq off, 3)) (ht : (pc : Int) + off = (tgt : Int))
    (kt : ¬ P → W p l e R s m args below meth c H locs cells slots Q (F0 m tgt ls rest)) (kf : P → W p l e R s m args below meth c H locs cells slots Q (F0 m (pc + 3) ls rest)) : W p l e R s m args below meth c H locs cells slots Q (F0 m pc ls (.int (b2i P) :: rest)) :=
  lv_if_eq S.1 S.2.1 hdg ht (fun h => kt (b2i_0 h)) (fun h => kf (b2i_1 h))
theorem kb_ifne {P : Prop} [Decidable P] (S : CallFix p m c cc nL s args lw_all own) {off : Int} {tgt : Nat} (hdg : decode cc pc = .ok (.ifCond .ne off, 3)) (ht : (pc : Int) + off = (tgt : Int))
    (kt : P → W p l e R s m args below meth c H locs cells slots Q (F0 m tgt ls rest)) (kf : ¬ P → W p l e R s m args below meth c H locs cells slots Q (F0 m (pc + 3) ls rest)) : W p l e R s m args below meth c H locs cells slots Q (F0 m pc ls (.int (b2i P) :: rest)) :=
  lv_if_ne S.1 S.2.1 hdg ht (fun h => kt (b2i_1 h)) (fun h => kf (b2i_0 h))
end KB

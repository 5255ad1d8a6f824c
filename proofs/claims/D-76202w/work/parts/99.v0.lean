/-! A TABLE OF INTS MADE AT ONCE (multianewarray, two dimensions) -/
/-- the class of int[][], by the tables -/
def ma_AO (U : State) : Prop := ∃ cB cA k, U.vm.findClass "[I" = some cB ∧ U.vm.classes[cA]? = some k ∧ k.kind = .array cB (.array .int) ∧ U.vm.findClass "[[I" = some cA
theorem ma_AO.moved {u U : State} (hvm : u.vm.Alike U.vm) (h : ma_AO u) : ma_AO U := by
  obtain ⟨cB, cA, k, h1, h2, h3, h4⟩ := h
  obtain ⟨k', hk', he⟩ := hvm.2.2 _ _ h2
  exact ⟨cB, cA, k', by rw [hvm.findClass]; exact h1, hk', by rw [he]; exact h3, by rw [hvm.findClass]; exact h4⟩
theorem ma_over {A : Array Value} {s : State} (h : (Cond.arrayOver (.array .int)).before A s = true) : ma_AO s := by
  simp only [Cond.before, Cond.holds, Cond.value, beq_iff_eq] at h
  cases hc : s.vm.findClass (FieldType.array .int).toString with
  | none => simp [hc] at h
  | some cB =>
    simp only [hc, Option.bind_some, Option.bind_eq_some_iff, Option.map_eq_some_iff] at h
    obtain ⟨cA, hi, k, hk, hb⟩ := h
    obtain ⟨hlt, hp, -⟩ := Array.findIdx?_eq_some_iff_getElem.mp hi
    rw [(Array.getElem?_eq_some_iff.mp hk).2] at hp
    cases hkind : k.kind with
    | array component ty =>
      rw [hkind] at hb hp
      simp at hb hp
      exact ⟨cB, cA, k, hc, hk, by rw [hkind, hp, hb.1], hb.2⟩
    | _ => rw [hkind] at hb; simp at hb
section MA
variable {E : CtlPost} {e : Env} {d : Bool} {acts : List Action} {s : State}
/-- one array of default values -/
theorem ma_new {cN comp : ClassId} {k : Class} {ty : FieldType} {len : Nat} {v : Value} (hk : s.vm.classes[cN]? = some k) (hkind : k.kind = .array comp ty) (hl : len ≤ e.platform.arrayLengthLimit) (hh : len * componentBytes ty ≤ e.platform.maxHeapBytes) (hfit : fits ty v = true) (hdef : v.isDefault = true)
    (h1 : s.heap.size < e.platform.maxCells) (h2 : s.slotsUsed + len ≤ e.platform.maxSlots) {Q : Addr → Pre} (hq : Q s.heap.size d acts (s.pushCell { cls := cN, slots := Array.replicate len v, vm := .none })) : wp (Jvm.newArray cN len v) Q E e d acts s := by
  have g1 : ¬ len > e.platform.arrayLengthLimit := by omega
  have g2 : ¬ len * componentBytes ty > e.platform.maxHeapBytes := by omega
  have hfs : ∀ i u, (Array.replicate len v)[i]? = some u → s.fitsSlot cN .none i u = true := by
    intro i u hu
    rw [Array.getElem?_replicate] at hu
    split at hu
    · cases hu; simp [State.fitsSlot, State.slotType?, hk, hkind, hfit]
    · cases hu
  have hall : allocActs (Array.replicate len v) s.heap.size acts = acts := by
    unfold allocActs
    rw [if_pos (by rw [Array.all_replicate]; split <;> simp [hdef])]
  simp only [Jvm.newArray, Jvm.arrayFits, wp_bind', W.ask, W.ite, g1, g2, if_false, wp_pure', W.theClass, hk, hkind, W.alloc, W.stop, Option.some.injEq, exists_eq_left', Array.size_replicate, hall]
  rw [if_neg (by omega)]
  exact ⟨h1, h2, hfs, hq⟩
end MA
def maO (cA : ClassId) (N h i : Nat) : Cell := arrV cA N (fun j => if j < i then .ref (h + 1 + j) else .null)
def maI (cB : ClassId) (M : Nat) : Cell := arrV cB M (fun _ => .int 0)
/-- the state when i rows stand -/
def maT (T : State) (cA cB : ClassId) (N M : Nat) : Nat → State
  | 0 => T.pushCell (maO cA N T.heap.size 0)
  | i + 1 => ((maT T cA cB N M i).pushCell (maI cB M)).setCell T.heap.size (maO cA N T.heap.size (i + 1))
theorem maO_s (cA : ClassId) (N h i : Nat) : (maO cA N h i).setSlot i (.ref (h + 1 + i)) = maO cA N h (i + 1) := by
  unfold maO
  rw [arrV_store]
  congr 1
  funext j
  unfold updV
  by_cases hj : j = i
  · subst hj; simp
  · by_cases h2 : j < i
    · rw [if_neg hj]; show (if j < i then _ else _) = _; rw [if_pos h2, if_pos (by omega)]
    · rw [if_neg hj]; show (if j < i then _ else _) = _; rw [if_neg h2, if_neg (by omega)]
theorem maO_0 (cA : ClassId) (N h : Nat) : maO cA N h 0 = { cls := cA, slots := Array.replicate N .null, vm := .none } := by
  unfold maO
  rw [arrV_new]
  congr 1
theorem maI_n (cB : ClassId) (M : Nat) : maI cB M = { cls := cB, slots := Array.replicate M (.int 0), vm := .none } := by
  unfold maI
  rw [← arrV_new]
theorem maT_f (T : State) (cA cB : ClassId) (N M : Nat) : ∀ i, (maT T cA cB N M i).heap.size = T.heap.size + 1 + i ∧ (maT T cA cB N M i).heap[T.heap.size]? = some (maO cA N T.heap.size i) ∧ (maT T cA cB N M i).vm = T.vm ∧ (∀ j, j < i → (maT T cA cB N M i).heap[T.heap.size + 1 + j]? = some (maI cB M)) ∧ ∀ q, q < T.heap.size → (maT T cA cB N M i).heap[q]? = T.heap[q]?
  | 0 => by
    refine ⟨by simp [maT, State.pushCell], by simp [maT, State.pushCell], rfl, fun j hj => absurd hj (Nat.not_lt_zero _), fun q hq => ?_⟩
    simp only [maT, State.pushCell]
    rw [Array.getElem?_push, if_neg (Nat.ne_of_lt hq)]
  | i + 1 => by
    obtain ⟨f1, f2, f3, f4, f5⟩ := maT_f T cA cB N M i
    have hp : ∀ q, q < (maT T cA cB N M i).heap.size → ((maT T cA cB N M i).pushCell (maI cB M)).heap[q]? = (maT T cA cB N M i).heap[q]? := fun q hq => by
      simp only [State.pushCell]
      rw [Array.getElem?_push, if_neg (Nat.ne_of_lt hq)]
    have hz : ((maT T cA cB N M i).pushCell (maI cB M)).heap.size = T.heap.size + 1 + (i + 1) := by simp [State.pushCell, f1]; omega
    refine ⟨by rw [maT, size_setCell, hz], by rw [maT]; exact heapAt_setCell_self _ (Nat.lt_of_lt_of_eq (show T.heap.size < T.heap.size + 1 + (i + 1) by omega) hz.symm), f3, fun j hj => ?_, fun q hq => ?_⟩
    · rw [maT, heapAt_setCell_ne _ (show T.heap.size ≠ T.heap.size + 1 + j by omega)]
      by_cases h : j < i
      · rw [hp _ (by omega)]; exact f4 j h
      · have : j = i := by omega
        subst this
        simp only [State.pushCell]
        rw [show T.heap.size + 1 + j = (maT T cA cB N M j).heap.size by rw [f1]]
        simp
    · rw [maT, heapAt_setCell_ne _ (show T.heap.size ≠ q by omega), hp _ (by omega)]
      exact f5 q hq
theorem maT_top (T : State) (g : JFrame) (cA cB : ClassId) (N M : Nat) : ∀ i, maT (T.setTop g) cA cB N M i = (maT T cA cB N M i).setTop g
  | 0 => rfl
  | i + 1 => by
    rw [maT, maT, maT_top T g cA cB N M i]
    rfl
theorem maT_u (T : State) (cA cB : ClassId) (N M : Nat) : ∀ i, (maT T cA cB N M i).slotsUsed = T.slotsUsed + N + i * M
  | 0 => by
    have e : (maO cA N T.heap.size 0).slots.size = N := arrV_size _ _ _
    simp [maT, State.pushCell, e]
  | i + 1 => by
    have h := maT_u T cA cB N M i
    have e : (maI cB M).slots.size = M := arrV_size _ _ _
    rw [maT]
    show ((maT T cA cB N M i).pushCell (maI cB M)).slotsUsed = _
    simp only [State.pushCell, e, h]
    rw [Nat.succ_mul]
    omega
theorem ma_make {E : CtlPost} {e : Env} {d : Bool} {acts : List Action} {s : State} {cA cB comp : ClassId} {kA kB : Class} (hkA : s.vm.classes[cA]? = some kA) (hkindA : kA.kind = .array cB (.array .int)) (hkB : s.vm.classes[cB]? = some kB) (hkindB : kB.kind = .array comp .int) {N M : Nat} (hN : N ≤ 1000) (hM : M ≤ 1000)
    (hl1 : ∀ z, z ≤ 1000 → z ≤ e.platform.arrayLengthLimit) (hl2 : ∀ z, z ≤ 1000 → z * 4 ≤ e.platform.maxHeapBytes) (hc : s.heap.size + (1 + N) ≤ e.platform.maxCells) (hs : s.slotsUsed + (N + N * M) ≤ e.platform.maxSlots) {Q : Addr → Pre} (hq : ∀ d' acts', Q s.heap.size d' acts' (maT s cA cB N M N)) : wp (multianewarray.make cA [nI N, nI M]) Q E e d acts s := by
  have hcN : (nI N).toNatClampNeg = N := nI_clamp (by omega)
  have hcM : (nI M).toNatClampNeg = M := nI_clamp (by omega)
  have hn0 : ¬ nI N < 0 := nI_pos (by omega)
  have hm0 : ¬ nI M < 0 := nI_pos (by omega)
  have hfind : ([nI M].find? (· < 0)) = none := by simp [hm0]
  rw [multianewarray.make]
  simp only [wp_bind', W.ite, hn0, if_false, wp_pure', W.theClass, hkA, hkindA, Option.some.injEq, exists_eq_left']
  rw [hcN]
  refine ma_new hkA hkindA (hl1 N hN) (hl2 N hN) rfl rfl (by omega) (by omega) ?_
  simp only [hfind]
  rw [ite_self, wp_bind', Std.Legacy.Range.forIn_eq_forIn_range']
  rw [show ([:N] : Std.Legacy.Range).size = N by simp [Std.Legacy.Range.size]]
  show wp (forIn (List.range' 0 N 1) PUnit.unit _) _ E e d acts _
  refine wp_forIn_inv (fun rest s' => ∃ i, i ≤ N ∧ rest = List.range' i (N - i) ∧ s' = maT s cA cB N M i) _ _ ⟨0, Nat.zero_le _, rfl, by rw [maT, maO_0]⟩ ?_ ?_
  · rintro x rest s' d' acts' Q' ⟨i, hi, hl, rfl⟩ hnext
    cases hNi : N - i with
    | zero => rw [hNi] at hl; simp at hl
    | succ w =>
      rw [hNi, List.range'_succ] at hl
      obtain ⟨rfl, hrest⟩ := List.cons.inj hl
      obtain ⟨f1, f2, f3, f4, f5⟩ := maT_f s cA cB N M x
      have f6 := maT_u s cA cB N M x
      have hmul : x * M + M ≤ N * M := by
        have := Nat.mul_le_mul_right M (show x + 1 ≤ N by omega)
        rw [Nat.succ_mul] at this
        exact this
      simp only [wp_bind']
      rw [multianewarray.make]
      simp only [wp_bind', W.ite, hm0, if_false, wp_pure', W.theClass, f3, hkB, hkindB, Option.some.injEq, exists_eq_left']
      rw [hcM]
      refine ma_new (by rw [f3]; exact hkB) hkindB (hl1 M hM) (hl2 M hM) rfl rfl (by rw [f1]; omega) (by rw [f6]; omega) ?_
      simp only [wp_bind', W.writeLoc, wp_pure']
      rw [show defaultValue .int = .int 0 from rfl, ← maI_n]
      have hp : ((maT s cA cB N M x).pushCell (maI cB M)).heap[s.heap.size]? = some (maO cA N s.heap.size x) := by
        simp only [State.pushCell]
        rw [Array.getElem?_push, if_neg (by omega)]
        exact f2
      have hfit : ((maT s cA cB N M x).pushCell (maI cB M)).fitsSlot cA .none x (.ref (maT s cA cB N M x).heap.size) = true := by
        simp [State.fitsSlot, State.slotType?, State.pushCell, f3, hkA, hkindA, fits]
      refine ⟨maO cA N s.heap.size x, hp, (fun z => by cases z), (by show x < (arrV _ _ _).slots.size; rw [arrV_size]; omega), hfit, hnext _ _ _ ⟨x + 1, by omega, ?_, ?_⟩⟩
      · rw [hrest, show N - (x + 1) = w by omega]
      · rw [f1, maO_s]
        rfl
  · rintro s' d' acts' ⟨i, hi, hl, rfl⟩
    have : i = N := by
      cases hNi : N - i with
      | zero => omega
      | succ w => rw [hNi, List.range'_succ] at hl; cases hl
    subst this
    simp only [wp_pure']
    exact hq _ _
section MW
variable {p : Program} {l : Launch} {e : Env} {R : Room} {s : State} {m : MethodId} {args : Array Value} {below : List Frame} {meth : Method} {c : Code} {H : Heap} {locs : List Loc} {cells slots : Nat} {Q : State → Prop} {cc : ByteArray} {pc : Nat} {ls : Array Slot} {rest : List Value}
theorem maT_X {T : State} (X : Stand p l e R s m args below meth c T locs cells slots) (cA cB : ClassId) (N M : Nat) : ∀ i, ∃ L : List Loc, (∀ q ∈ L, q.base = T.heap.size) ∧ Stand p l e R s m args below meth c (maT T cA cB N M i) (locs ++ L) (cells + 1 + i) (slots + N + i * M)
  | 0 => by
    refine ⟨[], fun q hq => by simp at hq, ?_⟩
    have h := X.pushed (maO cA N T.heap.size 0)
    rw [show (maO cA N T.heap.size 0).slots.size = N from arrV_size _ _ _] at h
    simpa [maT] using h
  | i + 1 => by
    obtain ⟨L, hL, Xi⟩ := maT_X X cA cB N M i
    obtain ⟨f1, f2, f3, f4, f5⟩ := maT_f T cA cB N M i
    have hc : ((maT T cA cB N M i).pushCell (maI cB M)).heap[T.heap.size]? = some (maO cA N T.heap.size i) := by
      simp only [State.pushCell]
      rw [Array.getElem?_push, if_neg (by omega)]
      exact f2
    have h := (Xi.pushed (maI cB M)).stored hc i (.ref (T.heap.size + 1 + i))
    rw [maO_s, show (maI cB M).slots.size = M from arrV_size _ _ _] at h
    refine ⟨L ++ [⟨T.heap.size, i⟩], fun q hq => ?_, ?_⟩
    · rcases List.mem_append.mp hq with h | h
      · exact hL q h
      · simp at h; rw [h]
    · rw [← List.append_assoc, show slots + N + (i + 1) * M = slots + N + i * M + M by rw [Nat.succ_mul]; omega]
      exact h
theorem W.multi {own : String} {index : Nat} (hexec : p.tables.exec = Jvm.exec) (hb : c.code = cc) (hown : s.vm.findClass own = some m.cls) (hlink : (Cond.classLink own index "[[I").before args s = true) (hover : ma_AO s) (harr : (Cond.arrayClass .int).before args s = true)
    (N M : Nat) (hN : N ≤ 1000) (hM : M ≤ 1000) (hcells : cells + (1 + N) ≤ R.cells) (hslots : slots + (N + N * M) ≤ R.slots) (hdg : decode cc pc = .ok (.multianewarray index 2, 4))
    (kk : ∀ (H1 : Heap) (L : List Loc) (cA cB : ClassId), s.vm.findClass "[[I" = some cA → s.vm.findClass "[I" = some cB → H1.size = H.size + 1 + N → H1[H.size]? = some (maO cA N H.size N) → (∀ j, j < N → H1[H.size + 1 + j]? = some (maI cB M)) → (∀ q, q < H.size → H1[q]? = H[q]?) → (∀ q ∈ L, q.base = H.size) →
      W p l e R s m args below meth c H1 (locs ++ L) (cells + 1 + N) (slots + N + N * M) Q (F0 m (pc + 4) ls (.ref H.size :: rest))) : W p l e R s m args below meth c H locs cells slots Q (F0 m pc ls (.int (nI M) :: .int (nI N) :: rest)) := by
  intro T hT X
  subst hT
  subst hb
  have hpl : e.platform.magicAccessors = ({} : Platform).magicAccessors := by rw [X.admits.platform]
  obtain ⟨cB, cA, kA, hcB, hkA, hkindA, hcA⟩ := hover
  obtain ⟨cB', kB, comp, hcB', hkB, hkindB⟩ := Cond.arrayClass_spec harr
  have eB : cB' = cB := Option.some.inj (hcB'.symm.trans hcB)
  subst eB
  obtain ⟨c0, hc0, hcl⟩ := Cond.classLink_spec hown hlink e.platform hpl
  cases hcA.symm.trans hc0
  obtain ⟨hgv, hWv, hrv⟩ := State.classEntry (e := e) X.warmed hcl
  generalize T.vm.noted m.cls index (.cls cA) = vm1 at hgv hWv hrv
  obtain ⟨kA1, hkA1, heA⟩ := hWv.alike.2.2 _ _ hkA
  obtain ⟨kB1, hkB1, heB⟩ := hWv.alike.2.2 _ _ hkB
  have hkindA1 : kA1.kind = .array cB' (.array .int) := by rw [heA]; exact hkindA
  have hkindB1 : kB1.kind = .array comp .int := by rw [heB]; exact hkindB
  have X1 := X.noted hWv
  have hcN : (nI N).toNatClampNeg = N := nI_clamp (by omega)
  have hcM : (nI M).toNatClampNeg = M := nI_clamp (by omega)
  have hn0 : ¬ nI N < 0 := nI_pos (by omega)
  have hm0 : ¬ nI M < 0 := nI_pos (by omega)
  have hl1 : ∀ z, z ≤ 1000 → z ≤ e.platform.arrayLengthLimit := fun z hz => by rw [Launch.admits_arrayLengthLimit X.admits]; omega
  have hl2 : ∀ z, z ≤ 1000 → z * 4 ≤ e.platform.maxHeapBytes := fun z hz => by rw [Launch.admits_maxHeapBytes X.admits]; omega
  obtain ⟨hr1, hr2⟩ := X.roomAbove hcells hslots
  obtain ⟨L, hL, XF⟩ := maT_X X1 cA cB' N M N
  obtain ⟨f1, f2, f3, f4, f5⟩ := maT_f (T.setVm vm1) cA cB' N M N
  obtain ⟨t, ht, hq⟩ := kk (maT (T.setVm vm1) cA cB' N M N).heap L cA cB' hcA hcB' f1 f2 f4 f5 hL _ rfl XF
  refine ⟨t, ?_, hq⟩
  have hgg : (F0 m pc ls (.int (nI M) :: .int (nI N) :: rest)).method = m := rfl
  generalize hge : F0 m pc ls (.int (nI M) :: .int (nI N) :: rest) = g at hgg
  have hst : g.stack = .int (nI M) :: .int (nI N) :: rest := by rw [← hge]
  have hpc : g.pc = pc := by rw [← hge]
  have hdg' : decode c.code g.pc = .ok (.multianewarray index 2, 4) := by rw [hpc]; exact hdg
  have hF : F0 m (pc + 4) ls (.ref T.heap.size :: rest) = { g with pc := g.pc + 4, stack := .ref T.heap.size :: rest } := by rw [← hge]
  rw [hF] at ht
  subst hgg
  jvm_step X.here [hexec, hdg']
  simp only [multianewarray.sem, wp_bind', W.resolveClassAt_links (State.method?_setTop g X.here.top) hgv]
  rw [W.popN, if_neg (by decide)]
  refine ⟨g, State.topJava?_setTop' (s := T.setVm vm1) g X.here.top, [.int (nI N), .int (nI M)], rest, rfl, hst, ?_⟩
  simp only [List.mapM_cons, List.mapM_nil, wp_bind', wp_pure']
  refine ma_make (s := ((T.setTop g).setVm vm1).setTop { g with stack := rest }) (kA := kA1) (kB := kB1) (comp := comp) hkA1 hkindA1 hkB1 hkindB1 hN hM hl1 hl2 hr1 hr2 (fun d' acts' => ?_)
  have eS : ((T.setTop g).setVm vm1).setTop { g with stack := rest } = (T.setVm vm1).setTop { g with stack := rest } := by
    show ((T.setVm vm1).setTop g).setTop _ = _
    rw [State.setTop_setTop]
  rw [eS, maT_top]
  simp only [wp_bind', W.mark, W.pushRef, State.topJava?_setTop' _ XF.here.top, Option.some.injEq, exists_eq_left', State.setTop_setTop, State.heap_setTop]
  intro acts
  simp [jvm, XF.here.top]
  exact ht
end MW

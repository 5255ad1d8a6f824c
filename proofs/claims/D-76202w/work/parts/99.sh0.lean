/-! COMPONENT: sheets. Rows y: 6 the widths (-1: none), 7 the lengths, 8 the numbers (40 k + i) -/
def cRw (t : CT) (y : Nat → Rw) (k a n : Nat) (H : Heap) (w : Int32) (ci : Nat) (ty : FieldType) : Prop := y 6 k = w ∧ H[a]? = some (vp_cell (t.2.2 ci) (n, .inl (fun i => y 8 (40 * k + i)))) ∧ ∀ i, i < n → fits ty (.int (y 8 (40 * k + i))) = true
def cAr (t : CT) (y : Nat → Rw) (k a : Nat) (H : Heap) : Prop := ¬ cA t a ∧ ∃ n, n ≤ 40 ∧ y 7 k = nI n ∧ (cRw t y k a n H 8 2 .byte ∨ cRw t y k a n H 16 4 .short ∨ cRw t y k a n H 32 0 .int)
def cSh (t : CT) (y : Nat → Rw) (H : Heap) : Prop := (∀ k, k < 4 → (cG t k = none ∧ y 6 k = -1) ∨ ∃ a, cG t k = some a ∧ cAr t y k a H) ∧ ∀ k k' a, k < 4 → k' < 4 → cG t k = some a → cG t k' = some a → k = k'
/-- the region with its sheets' rows -/
def cAS (t : CT) : Nat → Prop := fun q => cA t q ∨ ∃ k, k < 4 ∧ cG t k = some q
theorem cSh.row {t : CT} {y : Nat → Rw} {H : Heap} (h : cSh t y H) {v a : Nat} (hv : v < 4) (hg : cG t v = some a) : cAr t y v a H := by
  rcases h.1 v hv with ⟨h1, -⟩ | ⟨a', h1, h2⟩
  · rw [h1] at hg; cases hg
  · rw [h1] at hg; cases hg; exact h2
theorem cAr.mv {t : CT} {y : Nat → Rw} {v a : Nat} {H H1 : Heap} (h : cAr t y v a H) (e : H1[a]? = H[a]?) : cAr t y v a H1 := by
  obtain ⟨h1, n, h2, h3, h4⟩ := h
  refine ⟨h1, n, h2, h3, ?_⟩
  rcases h4 with h | h | h
  · exact Or.inl ⟨h.1, e.trans h.2.1, h.2.2⟩
  · exact Or.inr (Or.inl ⟨h.1, e.trans h.2.1, h.2.2⟩)
  · exact Or.inr (Or.inr ⟨h.1, e.trans h.2.1, h.2.2⟩)
theorem cAr.lt {t : CT} {y : Nat → Rw} {v a : Nat} {H : Heap} (h : cAr t y v a H) : a < H.size := by
  obtain ⟨h1, n, h2, h3, h4⟩ := h
  rcases h4 with h | h | h
  · exact (Array.getElem?_eq_some_iff.mp h.2.1).1
  · exact (Array.getElem?_eq_some_iff.mp h.2.1).1
  · exact (Array.getElem?_eq_some_iff.mp h.2.1).1
theorem cSh.keep {t : CT} {y : Nat → Rw} {H H1 : Heap} {locs : List Loc} (h : cSh t y H) (hS : va_S (cA t) H H1 locs) : cSh t y H1 := by
  refine ⟨fun k hk => ?_, h.2⟩
  rcases h.1 k hk with h1 | ⟨a, h1, h2⟩
  · exact Or.inl h1
  · exact Or.inr ⟨a, h1, h2.mv (hS.2.1 a h2.lt h2.1)⟩
theorem cSh.nn {t : CT} {y : Nat → Rw} {H : Heap} (h : cSh t y H) {v : Nat} (hv : v < 4) (hg : cG t v = none) : mSv y v = none := by
  rcases h.1 v hv with ⟨-, h1⟩ | ⟨a', h1, h2⟩
  · unfold mSv; rw [h1]; rfl
  · rw [h1] at hg; cases hg
theorem cAr.bits {t : CT} {y : Nat → Rw} {v a : Nat} {H : Heap} (h : cAr t y v a H) : y 6 v = 8 ∨ y 6 v = 16 ∨ y 6 v = 32 := by
  obtain ⟨h1, n, h2, h3, h4⟩ := h
  rcases h4 with h | h | h
  · exact Or.inl h.1
  · exact Or.inr (Or.inl h.1)
  · exact Or.inr (Or.inr h.1)
theorem cAr.len {t : CT} {y : Nat → Rw} {v a : Nat} {H : Heap} (h : cAr t y v a H) : y 7 v = nI (y 7 v).toNatClampNeg ∧ (y 7 v).toNatClampNeg ≤ 40 := by
  obtain ⟨h1, n, h2, h3, h4⟩ := h
  exact pv_x h3 h2 (by decide)
theorem cSh.sm {t : CT} {y : Nat → Rw} {H : Heap} (h : cSh t y H) {v a : Nat} (hv : v < 4) (hg : cG t v = some a) : mSv y v = some ((y 7 v).toNatClampNeg, fun k => y 8 (40 * v + k)) := by
  rcases (h.row hv hg).bits with h | h | h <;> exact mSv_y (by rw [h]; decide)
theorem cSh.at {t : CT} {y : Nat → Rw} {H : Heap} (h : cSh t y H) {v : Nat} (hv : v < 4) {q : Nat × Rw} (hq : mSv y v = some q) : ∃ a, cG t v = some a ∧ q = ((y 7 v).toNatClampNeg, fun k => y 8 (40 * v + k)) := by
  rcases h.1 v hv with ⟨h1, -⟩ | ⟨a, h1, -⟩
  · rw [h.nn hv h1] at hq; cases hq
  · rw [h.sm hv h1] at hq; cases hq; exact ⟨a, h1, rfl⟩
theorem cS_blind {av : List Value} {t : CT} {r : Rw} {x y : Nat → Rw} : FrameBlind (va_Pc av (fun U => cK t U ∧ cX t r x U.heap ∧ cSh t y U.heap)) := fun a U g mk h => ⟨h.1, cK.same (U := U.calling g mk a) rfl h.2.1, h.2.2⟩
theorem cS_pre {t : CT} {r : Rw} {x y : Nat → Rw} {s : State} {H : Heap} {As : List Value} (hK : cK t s) (hP : cX t r x H) (hQ : cSh t y H) : ∀ U : State, U.heap = H → s.WarmedH U.vm → va_Pc As (fun U => cK t U ∧ cX t r x U.heap ∧ cSh t y U.heap) As.toArray U := fun U hU hW => ⟨rfl, hK.warm hW, by rw [hU]; exact hP, by rw [hU]; exact hQ⟩
section CC
variable {p : Program} {l : Launch} {e : Env} {R : Room} {s : State} {m : MethodId} {args : Array Value} {below : List Frame} {meth : Method} {c : Code} {H H0 : Heap} {locs : List Loc} {cells slots : Nat} {Q : State → Prop}
variable {cc : ByteArray} {pc nL : Nat} {ls : Array Slot} {rest : List Value} {t : CT} {r : Rw} {x : Nat → Rw} {y : Nat → Rw}
theorem cRw.r8 {v a n : Nat} (hK : cK t s) (h : cRw t y v a n H 8 2 .byte) : ∃ cell : Cell, H[a]? = some cell ∧ cell.vm.isStatics = false ∧ s.vm.findClass "[B" = some cell.cls := ⟨_, h.2.1, rfl, (hK.1.2 2 _ rfl).2⟩
theorem sh_inst8_376 (S : CallFix p m c cc nL s args lw_all RX0) (hK : cK t s) {v a n : Nat} (h : cRw t y v a n H 8 2 .byte) (hdg : decode cc pc = .ok (.instanceof 376, 3)) (kk : W p l e R s m args below meth c H locs cells slots Q (F0 m (pc + 3) ls (.int 1 :: rest))) : W p l e R s m args below meth c H locs cells slots Q (F0 m pc ls (.ref a :: rest)) := va_instE S.1 S.2.1 S.2.2.2.1 (S.2.2.2.2 _ q967) (h.r8 hK) hdg kk
theorem sh_cast8 (S : CallFix p m c cc nL s args lw_all RX0) (hK : cK t s) {v a n : Nat} (h : cRw t y v a n H 8 2 .byte) (hdg : decode cc pc = .ok (.checkcast 376, 3)) (kk : W p l e R s m args below meth c H locs cells slots Q (F0 m (pc + 3) ls (.ref a :: rest))) : W p l e R s m args below meth c H locs cells slots Q (F0 m pc ls (.ref a :: rest)) := va_castE S.1 S.2.1 S.2.2.2.1 (S.2.2.2.2 _ q967) (h.r8 hK) hdg kk
theorem sh_len8 (S : CallFix p m c cc nL s args lw_all RX0) (hK : cK t s) {v a n : Nat} (h : cRw t y v a n H 8 2 .byte) (h7 : y 7 v = nI n) (hdg : decode cc pc = .ok (.arraylength, 1)) (kk : W p l e R s m args below meth c H locs cells slots Q (F0 m (pc + 1) ls (.int (y 7 v) :: rest))) : W p l e R s m args below meth c H locs cells slots Q (F0 m pc ls (.ref a :: rest)) := va_alen S.1 S.2.1 hK.1 (co_P1 (D := t.1) (q := .inl (t.2.2 2, n, .inl (fun i => y 8 (40 * v + i)))) h.2.1) 0 2 rfl rfl h7.symm hdg kk
theorem sh_ld8 (S : CallFix p m c cc nL s args lw_all RX0) (hK : cK t s) {v a n : Nat} (h : cRw t y v a n H 8 2 .byte) (hn : n ≤ 40) (k : Nat) (hk : k < n) {i : Int32} (hi : i = nI k) (hdg : decode cc pc = .ok (.baload, 1)) (kk : W p l e R s m args below meth c H locs cells slots Q (F0 m (pc + 1) ls (.int (y 8 (40 * v + k)) :: rest))) : W p l e R s m args below meth c H locs cells slots Q (F0 m pc ls (.int i :: .ref a :: rest)) := by
  refine va_bald S.1 S.2.1 hK.1 (co_P1 (D := t.1) (q := .inl (t.2.2 2, n, .inl (fun i => y 8 (40 * v + i)))) h.2.1) 0 2 rfl rfl (by rw [hi]; exact vp_in_nI hk (by omega)) hdg ?_
  rw [hi, nI_clamp (by omega)]
  exact kk
theorem sh_st8 (S : CallFix p m c cc nL s args lw_all RX0) (hK : cK t s) {v a n : Nat} (h : cRw t y v a n H 8 2 .byte) (hS : va_S (cAS t) H0 H locs) (hA : cAS t a) (hn : n ≤ 40) (k : Nat) (hk : k < n) {i u : Int32} (hi : i = nI k) (hdg : decode cc pc = .ok (.bastore, 1)) (kk : ∀ (H1 : Heap) (locs1 : List Loc), H1[a]? = some (vp_cell (t.2.2 2) (n, .inl (upd (fun i => y 8 (40 * v + i)) k (vp_nar .byte u)))) → (∀ q : Nat, q ≠ a → H1[q]? = H[q]?) → va_S (cAS t) H0 H1 locs1 → W p l e R s m args below meth c H1 locs1 cells slots Q (F0 m (pc + 1) ls (rest))) : W p l e R s m args below meth c H locs cells slots Q (F0 m pc ls (.int u :: .int i :: .ref a :: rest)) := by
  refine W.bast S.1 S.2.1 h.2.1 ((hK.1.2 2 _ rfl).1 n (fun j => .int (y 8 (40 * v + j)))) (fun q => by cases q) (by show ¬ (i < 0 ∨ (arrV _ _ _).slots.size ≤ _); rw [arrV_size, hi]; exact vp_in_nI hk (by omega)) rfl rfl hdg fun H1 e z1 oq => ?_
  refine kk H1 _ ?_ oq (hS.put z1 oq hA)
  rw [e, hi, nI_clamp (by omega), vp_cell_i, vp_cell_i, arrV_store]
  congr 2
  funext q
  by_cases hq : q = k
  · subst hq
    simp [updV, upd, vp_nar]
    try rfl
  · simp [updV, upd, hq]
theorem cRw.r16 {v a n : Nat} (hK : cK t s) (h : cRw t y v a n H 16 4 .short) : ∃ cell : Cell, H[a]? = some cell ∧ cell.vm.isStatics = false ∧ s.vm.findClass "[S" = some cell.cls := ⟨_, h.2.1, rfl, (hK.1.2 4 _ rfl).2⟩
theorem sh_inst16_376 (S : CallFix p m c cc nL s args lw_all RX0) (hK : cK t s) {v a n : Nat} (h : cRw t y v a n H 16 4 .short) (hdg : decode cc pc = .ok (.instanceof 376, 3)) (kk : W p l e R s m args below meth c H locs cells slots Q (F0 m (pc + 3) ls (.int 0 :: rest))) : W p l e R s m args below meth c H locs cells slots Q (F0 m pc ls (.ref a :: rest)) := va_instNo (C := "[S") S.1 S.2.1 S.2.2.2.1 (S.2.2.2.2 _ q967) (hK.n (w := ("[S", "[B")) 1 rfl) (h.r16 hK) hdg kk
theorem sh_inst16_377 (S : CallFix p m c cc nL s args lw_all RX0) (hK : cK t s) {v a n : Nat} (h : cRw t y v a n H 16 4 .short) (hdg : decode cc pc = .ok (.instanceof 377, 3)) (kk : W p l e R s m args below meth c H locs cells slots Q (F0 m (pc + 3) ls (.int 1 :: rest))) : W p l e R s m args below meth c H locs cells slots Q (F0 m pc ls (.ref a :: rest)) := va_instE S.1 S.2.1 S.2.2.2.1 (S.2.2.2.2 _ q968) (h.r16 hK) hdg kk
theorem sh_cast16 (S : CallFix p m c cc nL s args lw_all RX0) (hK : cK t s) {v a n : Nat} (h : cRw t y v a n H 16 4 .short) (hdg : decode cc pc = .ok (.checkcast 377, 3)) (kk : W p l e R s m args below meth c H locs cells slots Q (F0 m (pc + 3) ls (.ref a :: rest))) : W p l e R s m args below meth c H locs cells slots Q (F0 m pc ls (.ref a :: rest)) := va_castE S.1 S.2.1 S.2.2.2.1 (S.2.2.2.2 _ q968) (h.r16 hK) hdg kk
theorem sh_len16 (S : CallFix p m c cc nL s args lw_all RX0) (hK : cK t s) {v a n : Nat} (h : cRw t y v a n H 16 4 .short) (h7 : y 7 v = nI n) (hdg : decode cc pc = .ok (.arraylength, 1)) (kk : W p l e R s m args below meth c H locs cells slots Q (F0 m (pc + 1) ls (.int (y 7 v) :: rest))) : W p l e R s m args below meth c H locs cells slots Q (F0 m pc ls (.ref a :: rest)) := va_alen S.1 S.2.1 hK.1 (co_P1 (D := t.1) (q := .inl (t.2.2 4, n, .inl (fun i => y 8 (40 * v + i)))) h.2.1) 0 4 rfl rfl h7.symm hdg kk
theorem sh_ld16 (S : CallFix p m c cc nL s args lw_all RX0) (hK : cK t s) {v a n : Nat} (h : cRw t y v a n H 16 4 .short) (hn : n ≤ 40) (k : Nat) (hk : k < n) {i : Int32} (hi : i = nI k) (hdg : decode cc pc = .ok (.saload, 1)) (kk : W p l e R s m args below meth c H locs cells slots Q (F0 m (pc + 1) ls (.int (y 8 (40 * v + k)) :: rest))) : W p l e R s m args below meth c H locs cells slots Q (F0 m pc ls (.int i :: .ref a :: rest)) := by
  refine va_sald S.1 S.2.1 hK.1 (co_P1 (D := t.1) (q := .inl (t.2.2 4, n, .inl (fun i => y 8 (40 * v + i)))) h.2.1) 0 4 rfl rfl (by rw [hi]; exact vp_in_nI hk (by omega)) hdg ?_
  rw [hi, nI_clamp (by omega)]
  exact kk
theorem sh_st16 (S : CallFix p m c cc nL s args lw_all RX0) (hK : cK t s) {v a n : Nat} (h : cRw t y v a n H 16 4 .short) (hS : va_S (cAS t) H0 H locs) (hA : cAS t a) (hn : n ≤ 40) (k : Nat) (hk : k < n) {i u : Int32} (hi : i = nI k) (hdg : decode cc pc = .ok (.sastore, 1)) (kk : ∀ (H1 : Heap) (locs1 : List Loc), H1[a]? = some (vp_cell (t.2.2 4) (n, .inl (upd (fun i => y 8 (40 * v + i)) k (vp_nar .short u)))) → (∀ q : Nat, q ≠ a → H1[q]? = H[q]?) → va_S (cAS t) H0 H1 locs1 → W p l e R s m args below meth c H1 locs1 cells slots Q (F0 m (pc + 1) ls (rest))) : W p l e R s m args below meth c H locs cells slots Q (F0 m pc ls (.int u :: .int i :: .ref a :: rest)) := by
  refine W.sast S.1 S.2.1 h.2.1 ((hK.1.2 4 _ rfl).1 n (fun j => .int (y 8 (40 * v + j)))) (fun q => by cases q) (by show ¬ (i < 0 ∨ (arrV _ _ _).slots.size ≤ _); rw [arrV_size, hi]; exact vp_in_nI hk (by omega)) rfl rfl hdg fun H1 e z1 oq => ?_
  refine kk H1 _ ?_ oq (hS.put z1 oq hA)
  rw [e, hi, nI_clamp (by omega), vp_cell_i, vp_cell_i, arrV_store]
  congr 2
  funext q
  by_cases hq : q = k
  · subst hq
    simp [updV, upd, vp_nar]
    try rfl
  · simp [updV, upd, hq]
theorem cRw.r32 {v a n : Nat} (hK : cK t s) (h : cRw t y v a n H 32 0 .int) : ∃ cell : Cell, H[a]? = some cell ∧ cell.vm.isStatics = false ∧ s.vm.findClass "[I" = some cell.cls := ⟨_, h.2.1, rfl, (hK.1.2 0 _ rfl).2⟩
theorem sh_inst32_376 (S : CallFix p m c cc nL s args lw_all RX0) (hK : cK t s) {v a n : Nat} (h : cRw t y v a n H 32 0 .int) (hdg : decode cc pc = .ok (.instanceof 376, 3)) (kk : W p l e R s m args below meth c H locs cells slots Q (F0 m (pc + 3) ls (.int 0 :: rest))) : W p l e R s m args below meth c H locs cells slots Q (F0 m pc ls (.ref a :: rest)) := va_instNo (C := "[I") S.1 S.2.1 S.2.2.2.1 (S.2.2.2.2 _ q967) (hK.n (w := ("[I", "[B")) 0 rfl) (h.r32 hK) hdg kk
theorem sh_inst32_377 (S : CallFix p m c cc nL s args lw_all RX0) (hK : cK t s) {v a n : Nat} (h : cRw t y v a n H 32 0 .int) (hdg : decode cc pc = .ok (.instanceof 377, 3)) (kk : W p l e R s m args below meth c H locs cells slots Q (F0 m (pc + 3) ls (.int 0 :: rest))) : W p l e R s m args below meth c H locs cells slots Q (F0 m pc ls (.ref a :: rest)) := va_instNo (C := "[I") S.1 S.2.1 S.2.2.2.1 (S.2.2.2.2 _ q968) (hK.n (w := ("[I", "[S")) 2 rfl) (h.r32 hK) hdg kk
theorem sh_cast32 (S : CallFix p m c cc nL s args lw_all RX0) (hK : cK t s) {v a n : Nat} (h : cRw t y v a n H 32 0 .int) (hdg : decode cc pc = .ok (.checkcast 379, 3)) (kk : W p l e R s m args below meth c H locs cells slots Q (F0 m (pc + 3) ls (.ref a :: rest))) : W p l e R s m args below meth c H locs cells slots Q (F0 m pc ls (.ref a :: rest)) := va_castE S.1 S.2.1 S.2.2.2.1 (S.2.2.2.2 _ q969) (h.r32 hK) hdg kk
theorem sh_len32 (S : CallFix p m c cc nL s args lw_all RX0) (hK : cK t s) {v a n : Nat} (h : cRw t y v a n H 32 0 .int) (h7 : y 7 v = nI n) (hdg : decode cc pc = .ok (.arraylength, 1)) (kk : W p l e R s m args below meth c H locs cells slots Q (F0 m (pc + 1) ls (.int (y 7 v) :: rest))) : W p l e R s m args below meth c H locs cells slots Q (F0 m pc ls (.ref a :: rest)) := va_alen S.1 S.2.1 hK.1 (co_P1 (D := t.1) (q := .inl (t.2.2 0, n, .inl (fun i => y 8 (40 * v + i)))) h.2.1) 0 0 rfl rfl h7.symm hdg kk
theorem sh_ld32 (S : CallFix p m c cc nL s args lw_all RX0) (hK : cK t s) {v a n : Nat} (h : cRw t y v a n H 32 0 .int) (hn : n ≤ 40) (k : Nat) (hk : k < n) {i : Int32} (hi : i = nI k) (hdg : decode cc pc = .ok (.iaload, 1)) (kk : W p l e R s m args below meth c H locs cells slots Q (F0 m (pc + 1) ls (.int (y 8 (40 * v + k)) :: rest))) : W p l e R s m args below meth c H locs cells slots Q (F0 m pc ls (.int i :: .ref a :: rest)) := by
  refine va_iald S.1 S.2.1 hK.1 (co_P1 (D := t.1) (q := .inl (t.2.2 0, n, .inl (fun i => y 8 (40 * v + i)))) h.2.1) 0 0 rfl rfl (by rw [hi]; exact vp_in_nI hk (by omega)) hdg ?_
  rw [hi, nI_clamp (by omega)]
  exact kk
theorem sh_st32 (S : CallFix p m c cc nL s args lw_all RX0) (hK : cK t s) {v a n : Nat} (h : cRw t y v a n H 32 0 .int) (hS : va_S (cAS t) H0 H locs) (hA : cAS t a) (hn : n ≤ 40) (k : Nat) (hk : k < n) {i u : Int32} (hi : i = nI k) (hdg : decode cc pc = .ok (.iastore, 1)) (kk : ∀ (H1 : Heap) (locs1 : List Loc), H1[a]? = some (vp_cell (t.2.2 0) (n, .inl (upd (fun i => y 8 (40 * v + i)) k u))) → (∀ q : Nat, q ≠ a → H1[q]? = H[q]?) → va_S (cAS t) H0 H1 locs1 → W p l e R s m args below meth c H1 locs1 cells slots Q (F0 m (pc + 1) ls (rest))) : W p l e R s m args below meth c H locs cells slots Q (F0 m pc ls (.int u :: .int i :: .ref a :: rest)) := by
  refine W.iast S.1 S.2.1 h.2.1 ((hK.1.2 0 _ rfl).1 n (fun j => .int (y 8 (40 * v + j)))) (fun q => by cases q) (by show ¬ (i < 0 ∨ (arrV _ _ _).slots.size ≤ _); rw [arrV_size, hi]; exact vp_in_nI hk (by omega)) rfl rfl hdg fun H1 e z1 oq => ?_
  refine kk H1 _ ?_ oq (hS.put z1 oq hA)
  rw [e, hi, nI_clamp (by omega), vp_cell_i, vp_cell_i, arrV_store]
  congr 2
  funext q
  by_cases hq : q = k
  · subst hq
    simp [updV, upd]
    try rfl
  · simp [updV, upd, hq]
end CC

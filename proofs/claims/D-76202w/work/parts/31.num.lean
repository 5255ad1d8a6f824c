/-! NUMBERS, BRANCHES, LOOPS -/
theorem nn_add {a b : Int32} {x y : Nat} (ha : a = nI x) (hb : b = nI y) : a + b = nI (x + y) := by rw [ha, hb]; exact nI_add x y
theorem nn_mul {a b : Int32} {x y : Nat} (ha : a = nI x) (hb : b = nI y) : a * b = nI (x * y) := by rw [ha, hb]; exact pk_mul x y
theorem nn_sub {a b : Int32} {x y : Nat} (ha : a = nI x) (hb : b = nI y) (h : y ≤ x) : a - b = nI (x - y) := by rw [ha, hb]; exact pk_sub h
theorem nn_1 {a : Int32} {x : Nat} (ha : a = nI x) : a + Int32.ofInt 1 = nI (x + 1) := by rw [ha]; exact nI_1 x
/-- -1, or a number -/
def oi (b : Option Nat) : Int32 := match b with
  | none => -1
  | some k => nI k
theorem oi_some (k : Nat) : oi (some k) = nI k := rfl
theorem oi_lt {b : Option Nat} (hb : ∀ k, b = some k → k < 2 ^ 31) : oi b < 0 ↔ b = none := by
  cases b with
  | none => exact ⟨fun _ => rfl, fun _ => by decide⟩
  | some k => exact ⟨fun h => absurd h (nI_pos (hb k rfl)), fun h => by cases h⟩
theorem oi_m1 {b : Option Nat} (hb : ∀ k, b = some k → k < 2 ^ 31) : oi b = -1 ↔ b = none := by
  cases b with
  | none => exact ⟨fun _ => rfl, fun _ => rfl⟩
  | some k =>
    refine ⟨fun h => ?_, fun h => by cases h⟩
    have h2 : nI k = -1 := h
    have h3 := nI_toInt (hb k rfl)
    rw [h2] at h3
    have h4 : ((-1 : Int32)).toInt = -1 := by decide
    rw [h4] at h3
    omega
def imin (a b : Int32) : Int32 := if a < b then a else b
def imax (a b : Int32) : Int32 := if b < a then a else b
/-- a loop: f at k, k + 1 .. j times -/
def lp {α : Type} (f : Nat → α → α) : Nat → Nat → α → α
  | 0, _, a => a
  | j + 1, k, a => lp f j (k + 1) (f k a)
/-- the first of k, k + 1 .. (j of them) with p -/
def ffs (p : Nat → Bool) : Nat → Nat → Option Nat
  | 0, _ => none
  | j + 1, k => if p k = true then some k else ffs p j (k + 1)
theorem up_s {f : Rw} {k : Nat} {v : Int32} : upd f k v k = v := if_pos rfl
theorem up_n {f : Rw} {k j : Nat} {v : Int32} (h : j ≠ k) : upd f k v j = f j := if_neg h
theorem va_us {α : Type} {f : Nat → α} {k : Nat} {v : α} : va_up f k v k = v := if_pos rfl
theorem va_un {α : Type} {f : Nat → α} {k j : Nat} {v : α} (h : j ≠ k) : va_up f k v j = f j := if_neg h
theorem kk_blindT {av : List Value} : FrameBlind (va_Pc av (fun _ => True)) := fun _ _ _ _ h => ⟨h.1, trivial⟩
theorem m_blind {av : List Value} {t : MT} {r : Rw} {x : Nat → Rw} : FrameBlind (va_Pc av (fun U => mK t U ∧ mW t r x U.heap)) := fun a U g mk h => ⟨h.1, mK.moved (U := U.calling g mk a) (Vm.Alike.refl U.vm) h.2.1, h.2.2⟩
theorem m_pre {t : MT} {r : Rw} {x : Nat → Rw} {s : State} {H : Heap} {As : List Value} (hK : mK t s) (hP : mW t r x H) : ∀ U : State, U.heap = H → s.WarmedH U.vm → va_Pc As (fun U => mK t U ∧ mW t r x U.heap) As.toArray U := fun U hU hW => ⟨rfl, hK.moved hW.alike, by rw [hU]; exact hP⟩
theorem m_recv {t : MT} {r : Rw} {x : Nat → Rw} {s : State} {H : Heap} (hK : mK t s) (hP : mW t r x H) : ∃ cellB : Cell, H[t.2.1 0]? = some cellB ∧ cellB.vm.isStatics = false ∧ s.vm.findClass RX13 = some cellB.cls := by
  have hP1 : va_P t.1 gC [(t.2.1 0, .inr (0, mF t x))] H := fun k q hq => by
    match k, hq with
    | 0, hq => cases hq; exact hP 0 (by decide)
    | k + 1, hq => simp at hq
  exact va_recv hK.1 hP1 (ci := 0) (q0 := 0) (q := (RX13, TX13, 18)) rfl rfl
section KN
variable {p : Program} {l : Launch} {e : Env} {R : Room} {s : State} {m : MethodId} {args : Array Value} {below : List Frame} {meth : Method} {c : Code} {H : Heap} {locs : List Loc} {cells slots : Nat} {Q : State → Prop}
variable {cc : ByteArray} {pc nL : Nat} {ls : Array Slot} {rest : List Value} {own : String}
theorem kb_ge_n (S : CallFix p m c cc nL s args lw_all own) {x y : Int32} {a b : Nat} (hx : x = nI a) (hy : y = nI b) (ha : a < 2 ^ 31) (hb : b < 2 ^ 31) {off : Int} {tgt : Nat} (hdg : decode cc pc = .ok (.if_icmp .ge off, 3)) (ht : (pc : Int) + off = (tgt : Int))
    (kt : b ≤ a → W p l e R s m args below meth c H locs cells slots Q (F0 m tgt ls rest)) (kf : a < b → W p l e R s m args below meth c H locs cells slots Q (F0 m (pc + 3) ls rest)) : W p l e R s m args below meth c H locs cells slots Q (F0 m pc ls (.int y :: .int x :: rest)) := by
  subst hx; subst hy
  exact lv_icmp_ge S.1 S.2.1 hdg ht (fun h => kt ((nI_leI hb ha).mp h)) (fun h => kf (Nat.not_le.mp (fun z => h ((nI_leI hb ha).mpr z))))
theorem kb_lt_n (S : CallFix p m c cc nL s args lw_all own) {x y : Int32} {a b : Nat} (hx : x = nI a) (hy : y = nI b) (ha : a < 2 ^ 31) (hb : b < 2 ^ 31) {off : Int} {tgt : Nat} (hdg : decode cc pc = .ok (.if_icmp .lt off, 3)) (ht : (pc : Int) + off = (tgt : Int))
    (kt : a < b → W p l e R s m args below meth c H locs cells slots Q (F0 m tgt ls rest)) (kf : b ≤ a → W p l e R s m args below meth c H locs cells slots Q (F0 m (pc + 3) ls rest)) : W p l e R s m args below meth c H locs cells slots Q (F0 m pc ls (.int y :: .int x :: rest)) := by
  subst hx; subst hy
  exact lv_icmp_lt S.1 S.2.1 hdg ht (fun h => kt ((nI_ltI ha hb).mp h)) (fun h => kf (Nat.not_lt.mp (fun z => h ((nI_ltI ha hb).mpr z))))
theorem kb_gt_n (S : CallFix p m c cc nL s args lw_all own) {x y : Int32} {a b : Nat} (hx : x = nI a) (hy : y = nI b) (ha : a < 2 ^ 31) (hb : b < 2 ^ 31) {off : Int} {tgt : Nat} (hdg : decode cc pc = .ok (.if_icmp .gt off, 3)) (ht : (pc : Int) + off = (tgt : Int))
    (kt : b < a → W p l e R s m args below meth c H locs cells slots Q (F0 m tgt ls rest)) (kf : a ≤ b → W p l e R s m args below meth c H locs cells slots Q (F0 m (pc + 3) ls rest)) : W p l e R s m args below meth c H locs cells slots Q (F0 m pc ls (.int y :: .int x :: rest)) := by
  subst hx; subst hy
  exact lv_icmp_gt S.1 S.2.1 hdg ht (fun h => kt ((nI_ltI hb ha).mp h)) (fun h => kf (Nat.not_lt.mp (fun z => h ((nI_ltI hb ha).mpr z))))
theorem kb_le_n (S : CallFix p m c cc nL s args lw_all own) {x y : Int32} {a b : Nat} (hx : x = nI a) (hy : y = nI b) (ha : a < 2 ^ 31) (hb : b < 2 ^ 31) {off : Int} {tgt : Nat} (hdg : decode cc pc = .ok (.if_icmp .le off, 3)) (ht : (pc : Int) + off = (tgt : Int))
    (kt : a ≤ b → W p l e R s m args below meth c H locs cells slots Q (F0 m tgt ls rest)) (kf : b < a → W p l e R s m args below meth c H locs cells slots Q (F0 m (pc + 3) ls rest)) : W p l e R s m args below meth c H locs cells slots Q (F0 m pc ls (.int y :: .int x :: rest)) := by
  subst hx; subst hy
  exact lv_icmp_le S.1 S.2.1 hdg ht (fun h => kt ((nI_leI ha hb).mp h)) (fun h => kf (Nat.not_le.mp (fun z => h ((nI_leI ha hb).mpr z))))
theorem kb_eq_n (S : CallFix p m c cc nL s args lw_all own) {x y : Int32} {a b : Nat} (hx : x = nI a) (hy : y = nI b) (ha : a < 2 ^ 31) (hb : b < 2 ^ 31) {off : Int} {tgt : Nat} (hdg : decode cc pc = .ok (.if_icmp .eq off, 3)) (ht : (pc : Int) + off = (tgt : Int))
    (kt : a = b → W p l e R s m args below meth c H locs cells slots Q (F0 m tgt ls rest)) (kf : a ≠ b → W p l e R s m args below meth c H locs cells slots Q (F0 m (pc + 3) ls rest)) : W p l e R s m args below meth c H locs cells slots Q (F0 m pc ls (.int y :: .int x :: rest)) := by
  subst hx; subst hy
  exact lv_icmp_eq S.1 S.2.1 hdg ht (fun h => kt ((nI_eq ha hb).mp h)) (fun h => kf (fun z => h (by rw [z])))
theorem kb_ne_n (S : CallFix p m c cc nL s args lw_all own) {x y : Int32} {a b : Nat} (hx : x = nI a) (hy : y = nI b) (ha : a < 2 ^ 31) (hb : b < 2 ^ 31) {off : Int} {tgt : Nat} (hdg : decode cc pc = .ok (.if_icmp .ne off, 3)) (ht : (pc : Int) + off = (tgt : Int))
    (kt : a ≠ b → W p l e R s m args below meth c H locs cells slots Q (F0 m tgt ls rest)) (kf : a = b → W p l e R s m args below meth c H locs cells slots Q (F0 m (pc + 3) ls rest)) : W p l e R s m args below meth c H locs cells slots Q (F0 m pc ls (.int y :: .int x :: rest)) := by
  subst hx; subst hy
  exact lv_icmp_ne S.1 S.2.1 hdg ht (fun h => kt (fun z => h (by rw [z]))) (fun h => kf ((nI_eq ha hb).mp h))
theorem kb_ge0_n (S : CallFix p m c cc nL s args lw_all own) {x : Int32} {a : Nat} (hx : x = nI a) (ha : a < 2 ^ 31) {off : Int} {tgt : Nat} (hdg : decode cc pc = .ok (.ifCond .ge off, 3)) (ht : (pc : Int) + off = (tgt : Int))
    (kt : True → W p l e R s m args below meth c H locs cells slots Q (F0 m tgt ls rest)) (kf : False → W p l e R s m args below meth c H locs cells slots Q (F0 m (pc + 3) ls rest)) : W p l e R s m args below meth c H locs cells slots Q (F0 m pc ls (.int x :: rest)) := by
  subst hx
  exact lv_if_ge S.1 S.2.1 hdg ht (fun _ => kt trivial) (fun h => (h (nI_pos' ha)).elim)
theorem kb_lt0_n (S : CallFix p m c cc nL s args lw_all own) {x : Int32} {a : Nat} (hx : x = nI a) (ha : a < 2 ^ 31) {off : Int} {tgt : Nat} (hdg : decode cc pc = .ok (.ifCond .lt off, 3)) (ht : (pc : Int) + off = (tgt : Int))
    (kt : False → W p l e R s m args below meth c H locs cells slots Q (F0 m tgt ls rest)) (kf : True → W p l e R s m args below meth c H locs cells slots Q (F0 m (pc + 3) ls rest)) : W p l e R s m args below meth c H locs cells slots Q (F0 m pc ls (.int x :: rest)) := by
  subst hx
  exact lv_if_lt S.1 S.2.1 hdg ht (fun h => (nI_pos ha h).elim) (fun _ => kf trivial)
theorem kb_eq0_n (S : CallFix p m c cc nL s args lw_all own) {x : Int32} {a : Nat} (hx : x = nI a) (ha : a < 2 ^ 31) {off : Int} {tgt : Nat} (hdg : decode cc pc = .ok (.ifCond .eq off, 3)) (ht : (pc : Int) + off = (tgt : Int))
    (kt : a = 0 → W p l e R s m args below meth c H locs cells slots Q (F0 m tgt ls rest)) (kf : a ≠ 0 → W p l e R s m args below meth c H locs cells slots Q (F0 m (pc + 3) ls rest)) : W p l e R s m args below meth c H locs cells slots Q (F0 m pc ls (.int x :: rest)) := by
  subst hx
  exact lv_if_eq S.1 S.2.1 hdg ht (fun h => kt ((nI_eq ha (by decide)).mp (h.trans rfl))) (fun h => kf (fun z => h (by rw [z]; rfl)))
theorem kb_ne0_n (S : CallFix p m c cc nL s args lw_all own) {x : Int32} {a : Nat} (hx : x = nI a) (ha : a < 2 ^ 31) {off : Int} {tgt : Nat} (hdg : decode cc pc = .ok (.ifCond .ne off, 3)) (ht : (pc : Int) + off = (tgt : Int))
    (kt : a ≠ 0 → W p l e R s m args below meth c H locs cells slots Q (F0 m tgt ls rest)) (kf : a = 0 → W p l e R s m args below meth c H locs cells slots Q (F0 m (pc + 3) ls rest)) : W p l e R s m args below meth c H locs cells slots Q (F0 m pc ls (.int x :: rest)) := by
  subst hx
  exact lv_if_ne S.1 S.2.1 hdg ht (fun h => kt (fun z => h (by rw [z]; rfl))) (fun h => kf ((nI_eq ha (by decide)).mp (h.trans rfl)))
theorem kb_gt0_n (S : CallFix p m c cc nL s args lw_all own) {x : Int32} {a : Nat} (hx : x = nI a) (ha : a < 2 ^ 31) {off : Int} {tgt : Nat} (hdg : decode cc pc = .ok (.ifCond .gt off, 3)) (ht : (pc : Int) + off = (tgt : Int))
    (kt : 0 < a → W p l e R s m args below meth c H locs cells slots Q (F0 m tgt ls rest)) (kf : a = 0 → W p l e R s m args below meth c H locs cells slots Q (F0 m (pc + 3) ls rest)) : W p l e R s m args below meth c H locs cells slots Q (F0 m pc ls (.int x :: rest)) := by
  subst hx
  exact lv_if_gt S.1 S.2.1 hdg ht (fun h => kt ((nI_ltI (a := 0) (by decide) ha).mp h)) (fun h => kf (Nat.eq_zero_of_not_pos (fun z => h ((nI_ltI (a := 0) (by decide) ha).mpr z))))
theorem kb_le0_n (S : CallFix p m c cc nL s args lw_all own) {x : Int32} {a : Nat} (hx : x = nI a) (ha : a < 2 ^ 31) {off : Int} {tgt : Nat} (hdg : decode cc pc = .ok (.ifCond .le off, 3)) (ht : (pc : Int) + off = (tgt : Int))
    (kt : a = 0 → W p l e R s m args below meth c H locs cells slots Q (F0 m tgt ls rest)) (kf : 0 < a → W p l e R s m args below meth c H locs cells slots Q (F0 m (pc + 3) ls rest)) : W p l e R s m args below meth c H locs cells slots Q (F0 m pc ls (.int x :: rest)) := by
  subst hx
  exact lv_if_le S.1 S.2.1 hdg ht (fun h => kt (by have := (nI_leI (b := 0) ha (by decide)).mp h; omega)) (fun h => kf (Nat.not_le.mp (fun z => h ((nI_leI (b := 0) ha (by decide)).mpr z))))
theorem kb_iflt_o (S : CallFix p m c cc nL s args lw_all own) {b : Option Nat} {off : Int} {tgt : Nat} (hdg : decode cc pc = .ok (.ifCond .lt off, 3)) (ht : (pc : Int) + off = (tgt : Int))
    (kt : (b = none) → W p l e R s m args below meth c H locs cells slots Q (F0 m tgt ls rest)) (kf : (∃ k, b = some k) → W p l e R s m args below meth c H locs cells slots Q (F0 m (pc + 3) ls rest)) (hb : ∀ k, b = some k → k < 2 ^ 31) : W p l e R s m args below meth c H locs cells slots Q (F0 m pc ls (.int (oi b) :: rest)) :=
  lv_if_lt S.1 S.2.1 hdg ht (fun h => kt ((oi_lt hb).mp h)) (fun h => kf (by cases b with | none => exact absurd ((oi_lt hb).mpr rfl) h | some k => exact ⟨k, rfl⟩))
theorem kb_ifge_o (S : CallFix p m c cc nL s args lw_all own) {b : Option Nat} {off : Int} {tgt : Nat} (hdg : decode cc pc = .ok (.ifCond .ge off, 3)) (ht : (pc : Int) + off = (tgt : Int))
    (kt : (∃ k, b = some k) → W p l e R s m args below meth c H locs cells slots Q (F0 m tgt ls rest)) (kf : (b = none) → W p l e R s m args below meth c H locs cells slots Q (F0 m (pc + 3) ls rest)) (hb : ∀ k, b = some k → k < 2 ^ 31) : W p l e R s m args below meth c H locs cells slots Q (F0 m pc ls (.int (oi b) :: rest)) :=
  lv_if_ge S.1 S.2.1 hdg ht (fun h => kt (by cases b with | none => exact absurd h (by decide) | some k => exact ⟨k, rfl⟩)) (fun h => kf (by cases b with | none => rfl | some k => exact absurd (nI_pos' (hb k rfl)) h))
end KN

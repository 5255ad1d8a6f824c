/-! LONG COMPARES -/
theorem lc_lt {x y : Int64} : lg_cmp x y < 0 ↔ x < y := by
  unfold lg_cmp
  split
  · next h => exact ⟨fun z => absurd z (by decide), fun z => (Int64.lt_irrefl (Int64.lt_trans h z)).elim⟩
  · next h =>
    split
    · next h2 => subst h2; exact ⟨fun z => absurd z (by decide), fun z => (Int64.lt_irrefl z).elim⟩
    · next h2 => exact ⟨fun _ => by rcases Int64.le_iff_lt_or_eq.mp (Int64.not_lt.mp h) with q | q; exact q; exact absurd q h2, fun _ => by decide⟩
theorem lc_gt {x y : Int64} : 0 < lg_cmp x y ↔ y < x := by
  unfold lg_cmp
  split
  · next h => exact ⟨fun _ => h, fun _ => by decide⟩
  · next h =>
    split
    · exact ⟨fun z => absurd z (by decide), fun z => absurd z h⟩
    · exact ⟨fun z => absurd z (by decide), fun z => absurd z h⟩
theorem lc_eq {x y : Int64} : lg_cmp x y = 0 ↔ x = y := by
  unfold lg_cmp
  split
  · next h => exact ⟨fun z => absurd z (by decide), fun z => by subst z; exact (Int64.lt_irrefl h).elim⟩
  · next h =>
    split
    · next h2 => exact ⟨fun _ => h2, fun _ => rfl⟩
    · next h2 => exact ⟨fun z => absurd z (by decide), fun z => absurd z h2⟩
theorem l32_lt {a b : Int32} : a.toInt64 < b.toInt64 ↔ a < b := by
  rw [Int64.lt_iff_toInt_lt, Int32.lt_iff_toInt_lt, Int32.toInt_toInt64, Int32.toInt_toInt64]
section KL
variable {p : Program} {l : Launch} {e : Env} {R : Room} {s : State} {m : MethodId} {args : Array Value} {below : List Frame} {meth : Method} {c : Code} {H : Heap} {locs : List Loc} {cells slots : Nat} {Q : State → Prop}
variable {cc : ByteArray} {pc nL : Nat} {ls : Array Slot} {rest : List Value} {own : String}
theorem kb_lc32_lt (S : CallFix p m c cc nL s args lw_all own) {a b : Int32} {off : Int} {tgt : Nat} (hdg : decode cc pc = .ok (.ifCond .lt off, 3)) (ht : (pc : Int) + off = (tgt : Int))
    (kt : a < b → W p l e R s m args below meth c H locs cells slots Q (F0 m tgt ls rest)) (kf : ¬ a < b → W p l e R s m args below meth c H locs cells slots Q (F0 m (pc + 3) ls rest)) : W p l e R s m args below meth c H locs cells slots Q (F0 m pc ls (.int (lg_cmp a.toInt64 b.toInt64) :: rest)) :=
  lv_if_lt S.1 S.2.1 hdg ht (fun h => kt (l32_lt.mp (lc_lt.mp h))) (fun h => kf (fun z => h (lc_lt.mpr (l32_lt.mpr z))))
theorem kb_lc32_gt (S : CallFix p m c cc nL s args lw_all own) {a b : Int32} {off : Int} {tgt : Nat} (hdg : decode cc pc = .ok (.ifCond .gt off, 3)) (ht : (pc : Int) + off = (tgt : Int))
    (kt : b < a → W p l e R s m args below meth c H locs cells slots Q (F0 m tgt ls rest)) (kf : ¬ b < a → W p l e R s m args below meth c H locs cells slots Q (F0 m (pc + 3) ls rest)) : W p l e R s m args below meth c H locs cells slots Q (F0 m pc ls (.int (lg_cmp a.toInt64 b.toInt64) :: rest)) :=
  lv_if_gt S.1 S.2.1 hdg ht (fun h => kt (l32_lt.mp (lc_gt.mp h))) (fun h => kf (fun z => h (lc_gt.mpr (l32_lt.mpr z))))
theorem kb_lc_eq (S : CallFix p m c cc nL s args lw_all own) {x y : Int64} {off : Int} {tgt : Nat} (hdg : decode cc pc = .ok (.ifCond .eq off, 3)) (ht : (pc : Int) + off = (tgt : Int))
    (kt : x = y → W p l e R s m args below meth c H locs cells slots Q (F0 m tgt ls rest)) (kf : ¬ x = y → W p l e R s m args below meth c H locs cells slots Q (F0 m (pc + 3) ls rest)) : W p l e R s m args below meth c H locs cells slots Q (F0 m pc ls (.int (lg_cmp x y) :: rest)) :=
  lv_if_eq S.1 S.2.1 hdg ht (fun h => kt (lc_eq.mp h)) (fun h => kf (fun z => h (lc_eq.mpr z)))
end KL
/-! more rows: a name for a number, switches, numbers out of ranges -/
section KS
variable {p : Program} {l : Launch} {e : Env} {R : Room} {s : State} {m : MethodId} {args : Array Value} {below : List Frame} {meth : Method} {c : Code} {H : Heap} {locs : List Loc} {cells slots : Nat} {Q : State → Prop}
variable {cc : ByteArray} {pc nL : Nat} {ls : Array Slot} {rest : List Value} {own : String}
theorem kb_nat {x y : Int32} (h : x = y) (k : W p l e R s m args below meth c H locs cells slots Q (F0 m pc ls (.int y :: rest))) : W p l e R s m args below meth c H locs cells slots Q (F0 m pc ls (.int x :: rest)) := by rw [h]; exact k
theorem kb_tabIn (S : CallFix p m c cc nL s args lw_all own) {dflt lo hi : Int} {offs : Array Int} {len : Nat} {x : Int32} {i : Nat} (hx : x = nI i) (hi9 : i < 2 ^ 31) {off : Int} {tgt : Nat} (hdg : decode cc pc = .ok (.tableswitch dflt lo hi offs, len)) (h1 : ¬ (i : Int) < lo) (h2 : ¬ hi < (i : Int)) (ho : offs[((i : Int) - lo).toNat]? = some off) (ht : (pc : Int) + off = (tgt : Int))
    (k : W p l e R s m args below meth c H locs cells slots Q (F0 m tgt ls rest)) : W p l e R s m args below meth c H locs cells slots Q (F0 m pc ls (.int x :: rest)) := by
  subst hx
  have e1 := nI_toInt hi9
  exact lv_tableIn S.1 S.2.1 hdg (by rw [e1]; exact h1) (by rw [e1]; exact h2) (by rw [e1]; exact ho) ht k
theorem kb_tabOut (S : CallFix p m c cc nL s args lw_all own) {dflt lo hi : Int} {offs : Array Int} {len : Nat} {x : Int32} {i : Nat} (hx : x = nI i) (hi9 : i < 2 ^ 31) {tgt : Nat} (hdg : decode cc pc = .ok (.tableswitch dflt lo hi offs, len)) (h : (i : Int) < lo ∨ hi < (i : Int)) (ht : (pc : Int) + dflt = (tgt : Int))
    (k : W p l e R s m args below meth c H locs cells slots Q (F0 m tgt ls rest)) : W p l e R s m args below meth c H locs cells slots Q (F0 m pc ls (.int x :: rest)) := by
  subst hx
  have e1 := nI_toInt hi9
  exact lv_tableOut S.1 S.2.1 hdg (by rw [e1]; exact h) ht k
end KS
theorem nat_of_lt {x N : Int32} {n : Nat} (hN : N = nI n) (hn : n < 2 ^ 31) (h : 0 ≤ x ∧ x < N) : ∃ j, j < n ∧ x = nI j := by
  subst hN
  rcases pk_ix x hn with q | q | q
  · exact absurd h.1 (Int32.not_le.mpr q)
  · exact absurd h.2 (Int32.not_lt.mpr q)
  · exact q
theorem nat_of_le {x N : Int32} {n : Nat} (hN : N = nI n) (hn : n < 2 ^ 31) (h : 0 ≤ x ∧ x ≤ N) : ∃ j, j ≤ n ∧ x = nI j := by
  subst hN
  obtain ⟨j, hj, rfl⟩ := nI_of (Int32.not_lt.mpr h.1)
  exact ⟨j, (nI_leI hj hn).mp h.2, rfl⟩
/-- an act's answer: the number, the row behind it, what was found (none: nothing) -/
def fnd (j : Nat) : Int32 := -1000001 - nI j
abbrev Out : Type := Int32 × Rw × Option Nat
def oF (j : Nat) (r : Rw) : Out := (fnd j, r, some j)
def oK (v : Int32) (r : Rw) : Out := (v, r, none)
/-- the model's findings: all in 0, each by its own number + 1 -/
def p_fnd (f : Rw) (j : Nat) : Rw := upd (upd f 0 (f 0 + 1)) (j + 1) (upd f 0 (f 0 + 1) (j + 1) + 1)
def fx (x : Nat → Rw) (o : Option Nat) : Nat → Rw := match o with
  | none => x
  | some j => va_up x 4 (p_fnd (x 4) j)
section KO
variable {p : Program} {l : Launch} {e : Env} {R : Room} {s : State} {m : MethodId} {args : Array Value} {below : List Frame} {meth : Method} {c : Code} {H : Heap} {locs : List Loc} {cells slots : Nat} {Q : State → Prop}
variable {cc : ByteArray} {pc nL : Nat} {ls : Array Slot} {rest : List Value} {own : String}
theorem kb_topo {b : Option Nat} (k : ∀ y : Option Nat, y = b → W p l e R s m args below meth c H locs cells slots Q (F0 m pc ls (.int (oi y) :: rest))) : W p l e R s m args below meth c H locs cells slots Q (F0 m pc ls (.int (oi b) :: rest)) := k b rfl
theorem kb_eq_o (S : CallFix p m c cc nL s args lw_all own) {b : Option Nat} {off : Int} {tgt : Nat} (hdg : decode cc pc = .ok (.if_icmp .eq off, 3)) (ht : (pc : Int) + off = (tgt : Int))
    (kt : b = none → W p l e R s m args below meth c H locs cells slots Q (F0 m tgt ls rest)) (kf : (∃ k, b = some k) → W p l e R s m args below meth c H locs cells slots Q (F0 m (pc + 3) ls rest)) (hb : ∀ k, b = some k → k < 2 ^ 31) : W p l e R s m args below meth c H locs cells slots Q (F0 m pc ls (.int (-1) :: .int (oi b) :: rest)) :=
  lv_icmp_eq S.1 S.2.1 hdg ht (fun h => kt ((oi_m1 hb).mp h)) (fun h => kf (by cases b with | none => exact absurd rfl h | some k => exact ⟨k, rfl⟩))
theorem kb_ne_o (S : CallFix p m c cc nL s args lw_all own) {b : Option Nat} {off : Int} {tgt : Nat} (hdg : decode cc pc = .ok (.if_icmp .ne off, 3)) (ht : (pc : Int) + off = (tgt : Int))
    (kt : (∃ k, b = some k) → W p l e R s m args below meth c H locs cells slots Q (F0 m tgt ls rest)) (kf : b = none → W p l e R s m args below meth c H locs cells slots Q (F0 m (pc + 3) ls rest)) (hb : ∀ k, b = some k → k < 2 ^ 31) : W p l e R s m args below meth c H locs cells slots Q (F0 m pc ls (.int (-1) :: .int (oi b) :: rest)) :=
  lv_icmp_ne S.1 S.2.1 hdg ht (fun h => kt (by cases b with | none => exact absurd rfl h | some k => exact ⟨k, rfl⟩)) (fun h => kf ((oi_m1 hb).mp h))
end KO

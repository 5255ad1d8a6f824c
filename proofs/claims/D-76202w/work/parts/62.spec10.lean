/-! ODDS -/
theorem many6 : ∀ u, u < 64 → p_many u ≤ 6 := by decide +kernel
def p_free (r : Rw) : Nat := 6 - p_many (p_used r)
def p_gcd (r : Rw) (n : Nat) : Nat := Nat.gcd (6 ^ n) (p_free r ^ n)
def o_odds (r : Rw) (n w : Int32) : Int64 × Option Nat := if 0 ≤ n ∧ n ≤ 23 then (if 0 ≤ w ∧ w ≤ 1 then (if w = 0 then (lN (p_free r ^ n.toNatClampNeg / p_gcd r n.toNatClampNeg), none) else (lN (6 ^ n.toNatClampNeg / p_gcd r n.toNatClampNeg), none)) else ((fnd 0).toInt64, some 0)) else ((fnd 0).toInt64, some 0)
theorem pw_lt {f k : Nat} (hf : f ≤ 6) (hk : k ≤ 23) : f ^ k < 2 ^ 63 := Nat.lt_of_le_of_lt (Nat.le_trans (Nat.pow_le_pow_left hf k) (Nat.pow_le_pow_right (n := 6) (by decide) hk)) (by decide)
theorem lz {b : Nat} (hb : b < 2 ^ 63) : lN b = (0 : Int32).toInt64 ↔ b = 0 := by
  rw [show (0 : Int32).toInt64 = lN 0 by decide]
  exact pk_lEQ hb (by decide)
theorem ln_ne {b : Nat} (hb : b < 2 ^ 63) (h : ¬ b = 0) : ¬ lN b = 0 := fun z => h ((lz hb).mp (z.trans (by decide)))
section KLN
variable {p : Program} {l : Launch} {e : Env} {R : Room} {s : State} {m : MethodId} {args : Array Value} {below : List Frame} {meth : Method} {c : Code} {H : Heap} {locs : List Loc} {cells slots : Nat} {Q : State → Prop}
variable {pc : Nat} {ls : Array Slot} {rest : List Value}
theorem kb_natl {x y : Int64} (h : x = y) (k : W p l e R s m args below meth c H locs cells slots Q (F0 m pc ls (.long y :: rest))) : W p l e R s m args below meth c H locs cells slots Q (F0 m pc ls (.long x :: rest)) := by rw [h]; exact k
end KLN

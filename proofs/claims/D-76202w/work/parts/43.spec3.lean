/-! SUMS, SETS, LOUDEST -/
def p_sum (r : Rw) (w : Nat) : Int32 := lp (fun k a => a + (if w = 7 then p_loud r k else r (16 + 7 * k + w))) (pN r) 0 0
def p_so (r : Rw) : Nat := lp (fun k a => a ||| (if p_over r k = true then 2 ^ k else 0)) (pN r) 0 0
def p_lstf (r : Rw) (k : Nat) (b : Option Nat) : Option Nat := match b with
  | none => some k
  | some j => if p_loud r j < p_loud r k then some k else some j
def p_lst (r : Rw) : Option Nat := lp (p_lstf r) (pN r) 0 none
def p_used (r : Rw) : Nat := lp (fun k a => a ||| 2 ^ pC r k) (pN r) 0 0
def o_now (r : Rw) (w : Int32) : Out := if 0 ≤ w ∧ w < 7 then (match w.toNatClampNeg with
  | 0 => oK (r 1) r
  | 1 => oK (r 3) r
  | 2 => oK (p_sum r 2) r
  | 3 => oK (p_sum r 7) r
  | 4 => oK (nI (p_so r)) r
  | 5 => oK (oi (p_lst r)) r
  | _ => oK (nI (p_used r)) r) else oF 0 r
def o_go (r : Rw) (n : Int32) : Out := if 1 ≤ n ∧ n ≤ 60 then (if pD r + n.toNatClampNeg ≤ 99999 then oK (p_goes n.toNatClampNeg r 3) (p_goes n.toNatClampNeg r) else oF 4 r) else oF 0 r
theorem nat_of_1 {x N : Int32} {n : Nat} (hN : N = nI n) (hn : n < 2 ^ 31) (h : 1 ≤ x ∧ x ≤ N) : ∃ j, j ≤ n ∧ x = nI j := nat_of_le hN hn ⟨Int32.le_trans (by decide) h.1, h.2⟩
theorem p_so_lt {b : Nat} {r : Rw} (hV : pV b r) : p_so r < 256 := by
  refine lp_bound (N := 8) (fun k a hk ha => ?_) _ _ _ (by have := hV.n.2; omega) (by decide)
  refine Nat.or_lt_two_pow ha ?_
  split
  · exact Nat.pow_lt_pow_right (by decide) hk
  · decide
theorem lp_inv {α : Type} {f : Nat → α → α} {P : α → Prop} {N : Nat} (hf : ∀ k a, k < N → P a → P (f k a)) : ∀ j k a, k + j ≤ N → P a → P (lp f j k a)
  | 0, _, _, _, h => h
  | j + 1, k, a, hk, h => lp_inv hf j (k + 1) (f k a) (by omega) (hf k a (by omega) h)
theorem p_used_lt {b : Nat} {r : Rw} (hV : pV b r) : p_used r < 64 := by
  refine lp_inv (N := 8) (P := fun a => a < 64) (fun k a hk ha => ?_) _ _ _ (by have := hV.n.2; omega) (by decide)
  exact Nat.or_lt_two_pow (n := 6) ha (Nat.pow_lt_pow_right (by decide) (hV.c hk).2)
section KT
variable {p : Program} {l : Launch} {e : Env} {R : Room} {s : State} {m : MethodId} {args : Array Value} {below : List Frame} {meth : Method} {c : Code} {H : Heap} {locs : List Loc} {cells slots : Nat} {Q : State → Prop}
variable {cc : ByteArray} {pc nL : Nat} {ls : Array Slot} {rest : List Value} {own : String}
theorem kb_tabRaw (S : CallFix p m c cc nL s args lw_all own) {dflt hi : Int} {offs : Array Int} {len n : Nat} {x N : Int32} (hN : N = nI n) (hn : n < 2 ^ 31) (h : ¬ (0 ≤ x ∧ x < N)) (hh : hi = (n : Int) - 1) {tgt : Nat} (hdg : decode cc pc = .ok (.tableswitch dflt 0 hi offs, len)) (ht : (pc : Int) + dflt = (tgt : Int))
    (k : W p l e R s m args below meth c H locs cells slots Q (F0 m tgt ls rest)) : W p l e R s m args below meth c H locs cells slots Q (F0 m pc ls (.int x :: rest)) := by
  refine lv_tableOut S.1 S.2.1 hdg ?_ ht k
  subst hN
  have e1 := nI_toInt hn
  rw [Int32.le_iff_toInt_le, Int32.lt_iff_toInt_lt, e1] at h
  have e0 : (0 : Int32).toInt = 0 := by decide
  rw [e0] at h
  omega
end KT

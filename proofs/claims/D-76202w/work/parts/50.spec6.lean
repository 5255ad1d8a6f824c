/-! EMPTIED -/
theorem oU_r {o : Option Nat} {r : Rw} : (oU o r).2.1 = r := by cases o <;> rfl
def p_clr1 (a q : Nat) (r : Rw) : Rw := if (a / 2 ^ q) &&& 1 = 1 then p_clear r q else r
def p_clrs (r : Rw) (a : Nat) : Rw := lp (p_clr1 a) (pN r) 0 r
def p_empP (r : Rw) (n a : Nat) : Bool := decide (p_goes n (p_clrs r a) 3 = r 3)
def p_empt (r : Rw) (n : Nat) : Option Nat := lp (p_few (p_empP r n)) (2 ^ pN r) 0 none
def o_empty (r : Rw) (n : Int32) : Out := if 0 ≤ n ∧ n ≤ 12 then oU (p_empt r n.toNatClampNeg) r else oF 0 r
theorem kp_clr1 {r r1 : Rw} {a q : Nat} (h : kp r r1) (hq : q < 8) : kp r (p_clr1 a q r1) := by
  unfold p_clr1
  split
  · exact kp_clear h hq
  · exact h
theorem kp_clrs {b : Nat} {r : Rw} (hV : pV b r) (a : Nat) : kp r (p_clrs r a) := kp_lp (N := 8) (fun _ _ _ hq h => kp_clr1 h hq) _ _ _ (by have := hV.n.2; omega) kp.rf

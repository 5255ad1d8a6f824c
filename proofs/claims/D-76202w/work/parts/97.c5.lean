/-! COMPONENT: storms by draws, odds, the tape's feeding, images, counts -/
theorem i8_and (y : Int32) : (y &&& 255).toInt8 = y.toInt8 := by
  apply Int8.toBitVec_inj.mp
  show (y.toBitVec &&& 255#32).signExtend 8 = y.toBitVec.signExtend 8
  apply BitVec.eq_of_getLsbD_eq
  intro i hi
  have h8 : (255#32).getLsbD i = true := by
    rcases (show i = 0 ∨ i = 1 ∨ i = 2 ∨ i = 3 ∨ i = 4 ∨ i = 5 ∨ i = 6 ∨ i = 7 by omega) with e | e | e | e | e | e | e | e <;> subst e <;> decide
  rw [BitVec.getLsbD_signExtend, BitVec.getLsbD_signExtend]
  simp only [hi, decide_true, Bool.true_and, show i < 32 by omega, if_true, BitVec.getLsbD_and, h8, Bool.and_true]
theorem i8_8 (z : Int32) : (z.toInt8.toInt32).toInt8.toInt32 = z.toInt8.toInt32 := by
  rw [← vp_nar_byte]
  exact pk_vb z
theorem pV.sp {b : Nat} {r : Rw} (h : pV b r) {k : Nat} (hk : k < 10) : ¬ r (72 + k) = -1 ↔ 0 ≤ r (72 + k) := by
  obtain ⟨-, -, -, h⟩ := h
  rcases h k hk with e | ⟨i, h1, h2⟩
  · rw [e]; decide
  · rw [h2]
    exact ⟨fun _ => nI_pos' (by omega), fun z e => absurd z (by rw [e]; decide)⟩
def p_stt (f : Rw) (w : Int32) : Int32 := lp (fun k n => n + (if w = -1 ∨ w = nI k then f (k + 1) else 0)) 7 0 0
/-- findings: their sum stands first -/
def p_F (f : Rw) : Prop := f 0 = lp (fun k n => n + f (k + 1)) 7 0 0
theorem p_stt_ok {f : Rw} (hf : p_F f) {w : Int32} {j : Nat} (hj : j < 8) (hw : w + 1 = nI j) : p_stt f w = f j := by
  have h0 : ∀ x : Int32, x + 0 = x := fun x => Int32.add_zero x
  have h1 : ∀ x : Int32, 0 + x = x := fun x => Int32.zero_add x
  have e : w = nI j - 1 := by rw [← hw]; exact (Int32.add_sub_cancel w 1).symm
  rcases (show j = 0 ∨ j = 1 ∨ j = 2 ∨ j = 3 ∨ j = 4 ∨ j = 5 ∨ j = 6 ∨ j = 7 by omega) with q | q | q | q | q | q | q | q <;> subst q
  · subst e
    have e0 : (if (nI 0 - 1 = -1 ∨ nI 0 - 1 = nI 0) then f (0 + 1) else 0) = f (0 + 1) := if_pos (by decide)
    have e1 : (if (nI 0 - 1 = -1 ∨ nI 0 - 1 = nI 1) then f (1 + 1) else 0) = f (1 + 1) := if_pos (by decide)
    have e2 : (if (nI 0 - 1 = -1 ∨ nI 0 - 1 = nI 2) then f (2 + 1) else 0) = f (2 + 1) := if_pos (by decide)
    have e3 : (if (nI 0 - 1 = -1 ∨ nI 0 - 1 = nI 3) then f (3 + 1) else 0) = f (3 + 1) := if_pos (by decide)
    have e4 : (if (nI 0 - 1 = -1 ∨ nI 0 - 1 = nI 4) then f (4 + 1) else 0) = f (4 + 1) := if_pos (by decide)
    have e5 : (if (nI 0 - 1 = -1 ∨ nI 0 - 1 = nI 5) then f (5 + 1) else 0) = f (5 + 1) := if_pos (by decide)
    have e6 : (if (nI 0 - 1 = -1 ∨ nI 0 - 1 = nI 6) then f (6 + 1) else 0) = f (6 + 1) := if_pos (by decide)
    show ((((((0 + (if (nI 0 - 1 = -1 ∨ nI 0 - 1 = nI 0) then f (0 + 1) else 0)) + (if (nI 0 - 1 = -1 ∨ nI 0 - 1 = nI 1) then f (1 + 1) else 0)) + (if (nI 0 - 1 = -1 ∨ nI 0 - 1 = nI 2) then f (2 + 1) else 0)) + (if (nI 0 - 1 = -1 ∨ nI 0 - 1 = nI 3) then f (3 + 1) else 0)) + (if (nI 0 - 1 = -1 ∨ nI 0 - 1 = nI 4) then f (4 + 1) else 0)) + (if (nI 0 - 1 = -1 ∨ nI 0 - 1 = nI 5) then f (5 + 1) else 0)) + (if (nI 0 - 1 = -1 ∨ nI 0 - 1 = nI 6) then f (6 + 1) else 0) = f 0
    rw [e0, e1, e2, e3, e4, e5, e6, hf]
    rfl
  · subst e
    have e0 : (if (nI 1 - 1 = -1 ∨ nI 1 - 1 = nI 0) then f (0 + 1) else 0) = f (0 + 1) := if_pos (by decide)
    have e1 : (if (nI 1 - 1 = -1 ∨ nI 1 - 1 = nI 1) then f (1 + 1) else 0) = 0 := if_neg (by decide)
    have e2 : (if (nI 1 - 1 = -1 ∨ nI 1 - 1 = nI 2) then f (2 + 1) else 0) = 0 := if_neg (by decide)
    have e3 : (if (nI 1 - 1 = -1 ∨ nI 1 - 1 = nI 3) then f (3 + 1) else 0) = 0 := if_neg (by decide)
    have e4 : (if (nI 1 - 1 = -1 ∨ nI 1 - 1 = nI 4) then f (4 + 1) else 0) = 0 := if_neg (by decide)
    have e5 : (if (nI 1 - 1 = -1 ∨ nI 1 - 1 = nI 5) then f (5 + 1) else 0) = 0 := if_neg (by decide)
    have e6 : (if (nI 1 - 1 = -1 ∨ nI 1 - 1 = nI 6) then f (6 + 1) else 0) = 0 := if_neg (by decide)
    show ((((((0 + (if (nI 1 - 1 = -1 ∨ nI 1 - 1 = nI 0) then f (0 + 1) else 0)) + (if (nI 1 - 1 = -1 ∨ nI 1 - 1 = nI 1) then f (1 + 1) else 0)) + (if (nI 1 - 1 = -1 ∨ nI 1 - 1 = nI 2) then f (2 + 1) else 0)) + (if (nI 1 - 1 = -1 ∨ nI 1 - 1 = nI 3) then f (3 + 1) else 0)) + (if (nI 1 - 1 = -1 ∨ nI 1 - 1 = nI 4) then f (4 + 1) else 0)) + (if (nI 1 - 1 = -1 ∨ nI 1 - 1 = nI 5) then f (5 + 1) else 0)) + (if (nI 1 - 1 = -1 ∨ nI 1 - 1 = nI 6) then f (6 + 1) else 0) = f 1
    rw [e0, e1, e2, e3, e4, e5, e6]
    simp only [h0, h1]
  · subst e
    have e0 : (if (nI 2 - 1 = -1 ∨ nI 2 - 1 = nI 0) then f (0 + 1) else 0) = 0 := if_neg (by decide)
    have e1 : (if (nI 2 - 1 = -1 ∨ nI 2 - 1 = nI 1) then f (1 + 1) else 0) = f (1 + 1) := if_pos (by decide)
    have e2 : (if (nI 2 - 1 = -1 ∨ nI 2 - 1 = nI 2) then f (2 + 1) else 0) = 0 := if_neg (by decide)
    have e3 : (if (nI 2 - 1 = -1 ∨ nI 2 - 1 = nI 3) then f (3 + 1) else 0) = 0 := if_neg (by decide)
    have e4 : (if (nI 2 - 1 = -1 ∨ nI 2 - 1 = nI 4) then f (4 + 1) else 0) = 0 := if_neg (by decide)
    have e5 : (if (nI 2 - 1 = -1 ∨ nI 2 - 1 = nI 5) then f (5 + 1) else 0) = 0 := if_neg (by decide)
    have e6 : (if (nI 2 - 1 = -1 ∨ nI 2 - 1 = nI 6) then f (6 + 1) else 0) = 0 := if_neg (by decide)
    show ((((((0 + (if (nI 2 - 1 = -1 ∨ nI 2 - 1 = nI 0) then f (0 + 1) else 0)) + (if (nI 2 - 1 = -1 ∨ nI 2 - 1 = nI 1) then f (1 + 1) else 0)) + (if (nI 2 - 1 = -1 ∨ nI 2 - 1 = nI 2) then f (2 + 1) else 0)) + (if (nI 2 - 1 = -1 ∨ nI 2 - 1 = nI 3) then f (3 + 1) else 0)) + (if (nI 2 - 1 = -1 ∨ nI 2 - 1 = nI 4) then f (4 + 1) else 0)) + (if (nI 2 - 1 = -1 ∨ nI 2 - 1 = nI 5) then f (5 + 1) else 0)) + (if (nI 2 - 1 = -1 ∨ nI 2 - 1 = nI 6) then f (6 + 1) else 0) = f 2
    rw [e0, e1, e2, e3, e4, e5, e6]
    simp only [h0, h1]
  · subst e
    have e0 : (if (nI 3 - 1 = -1 ∨ nI 3 - 1 = nI 0) then f (0 + 1) else 0) = 0 := if_neg (by decide)
    have e1 : (if (nI 3 - 1 = -1 ∨ nI 3 - 1 = nI 1) then f (1 + 1) else 0) = 0 := if_neg (by decide)
    have e2 : (if (nI 3 - 1 = -1 ∨ nI 3 - 1 = nI 2) then f (2 + 1) else 0) = f (2 + 1) := if_pos (by decide)
    have e3 : (if (nI 3 - 1 = -1 ∨ nI 3 - 1 = nI 3) then f (3 + 1) else 0) = 0 := if_neg (by decide)
    have e4 : (if (nI 3 - 1 = -1 ∨ nI 3 - 1 = nI 4) then f (4 + 1) else 0) = 0 := if_neg (by decide)
    have e5 : (if (nI 3 - 1 = -1 ∨ nI 3 - 1 = nI 5) then f (5 + 1) else 0) = 0 := if_neg (by decide)
    have e6 : (if (nI 3 - 1 = -1 ∨ nI 3 - 1 = nI 6) then f (6 + 1) else 0) = 0 := if_neg (by decide)
    show ((((((0 + (if (nI 3 - 1 = -1 ∨ nI 3 - 1 = nI 0) then f (0 + 1) else 0)) + (if (nI 3 - 1 = -1 ∨ nI 3 - 1 = nI 1) then f (1 + 1) else 0)) + (if (nI 3 - 1 = -1 ∨ nI 3 - 1 = nI 2) then f (2 + 1) else 0)) + (if (nI 3 - 1 = -1 ∨ nI 3 - 1 = nI 3) then f (3 + 1) else 0)) + (if (nI 3 - 1 = -1 ∨ nI 3 - 1 = nI 4) then f (4 + 1) else 0)) + (if (nI 3 - 1 = -1 ∨ nI 3 - 1 = nI 5) then f (5 + 1) else 0)) + (if (nI 3 - 1 = -1 ∨ nI 3 - 1 = nI 6) then f (6 + 1) else 0) = f 3
    rw [e0, e1, e2, e3, e4, e5, e6]
    simp only [h0, h1]
  · subst e
    have e0 : (if (nI 4 - 1 = -1 ∨ nI 4 - 1 = nI 0) then f (0 + 1) else 0) = 0 := if_neg (by decide)
    have e1 : (if (nI 4 - 1 = -1 ∨ nI 4 - 1 = nI 1) then f (1 + 1) else 0) = 0 := if_neg (by decide)
    have e2 : (if (nI 4 - 1 = -1 ∨ nI 4 - 1 = nI 2) then f (2 + 1) else 0) = 0 := if_neg (by decide)
    have e3 : (if (nI 4 - 1 = -1 ∨ nI 4 - 1 = nI 3) then f (3 + 1) else 0) = f (3 + 1) := if_pos (by decide)
    have e4 : (if (nI 4 - 1 = -1 ∨ nI 4 - 1 = nI 4) then f (4 + 1) else 0) = 0 := if_neg (by decide)
    have e5 : (if (nI 4 - 1 = -1 ∨ nI 4 - 1 = nI 5) then f (5 + 1) else 0) = 0 := if_neg (by decide)
    have e6 : (if (nI 4 - 1 = -1 ∨ nI 4 - 1 = nI 6) then f (6 + 1) else 0) = 0 := if_neg (by decide)
    show ((((((0 + (if (nI 4 - 1 = -1 ∨ nI 4 - 1 = nI 0) then f (0 + 1) else 0)) + (if (nI 4 - 1 = -1 ∨ nI 4 - 1 = nI 1) then f (1 + 1) else 0)) + (if (nI 4 - 1 = -1 ∨ nI 4 - 1 = nI 2) then f (2 + 1) else 0)) + (if (nI 4 - 1 = -1 ∨ nI 4 - 1 = nI 3) then f (3 + 1) else 0)) + (if (nI 4 - 1 = -1 ∨ nI 4 - 1 = nI 4) then f (4 + 1) else 0)) + (if (nI 4 - 1 = -1 ∨ nI 4 - 1 = nI 5) then f (5 + 1) else 0)) + (if (nI 4 - 1 = -1 ∨ nI 4 - 1 = nI 6) then f (6 + 1) else 0) = f 4
    rw [e0, e1, e2, e3, e4, e5, e6]
    simp only [h0, h1]
  · subst e
    have e0 : (if (nI 5 - 1 = -1 ∨ nI 5 - 1 = nI 0) then f (0 + 1) else 0) = 0 := if_neg (by decide)
    have e1 : (if (nI 5 - 1 = -1 ∨ nI 5 - 1 = nI 1) then f (1 + 1) else 0) = 0 := if_neg (by decide)
    have e2 : (if (nI 5 - 1 = -1 ∨ nI 5 - 1 = nI 2) then f (2 + 1) else 0) = 0 := if_neg (by decide)
    have e3 : (if (nI 5 - 1 = -1 ∨ nI 5 - 1 = nI 3) then f (3 + 1) else 0) = 0 := if_neg (by decide)
    have e4 : (if (nI 5 - 1 = -1 ∨ nI 5 - 1 = nI 4) then f (4 + 1) else 0) = f (4 + 1) := if_pos (by decide)
    have e5 : (if (nI 5 - 1 = -1 ∨ nI 5 - 1 = nI 5) then f (5 + 1) else 0) = 0 := if_neg (by decide)
    have e6 : (if (nI 5 - 1 = -1 ∨ nI 5 - 1 = nI 6) then f (6 + 1) else 0) = 0 := if_neg (by decide)
    show ((((((0 + (if (nI 5 - 1 = -1 ∨ nI 5 - 1 = nI 0) then f (0 + 1) else 0)) + (if (nI 5 - 1 = -1 ∨ nI 5 - 1 = nI 1) then f (1 + 1) else 0)) + (if (nI 5 - 1 = -1 ∨ nI 5 - 1 = nI 2) then f (2 + 1) else 0)) + (if (nI 5 - 1 = -1 ∨ nI 5 - 1 = nI 3) then f (3 + 1) else 0)) + (if (nI 5 - 1 = -1 ∨ nI 5 - 1 = nI 4) then f (4 + 1) else 0)) + (if (nI 5 - 1 = -1 ∨ nI 5 - 1 = nI 5) then f (5 + 1) else 0)) + (if (nI 5 - 1 = -1 ∨ nI 5 - 1 = nI 6) then f (6 + 1) else 0) = f 5
    rw [e0, e1, e2, e3, e4, e5, e6]
    simp only [h0, h1]
  · subst e
    have e0 : (if (nI 6 - 1 = -1 ∨ nI 6 - 1 = nI 0) then f (0 + 1) else 0) = 0 := if_neg (by decide)
    have e1 : (if (nI 6 - 1 = -1 ∨ nI 6 - 1 = nI 1) then f (1 + 1) else 0) = 0 := if_neg (by decide)
    have e2 : (if (nI 6 - 1 = -1 ∨ nI 6 - 1 = nI 2) then f (2 + 1) else 0) = 0 := if_neg (by decide)
    have e3 : (if (nI 6 - 1 = -1 ∨ nI 6 - 1 = nI 3) then f (3 + 1) else 0) = 0 := if_neg (by decide)
    have e4 : (if (nI 6 - 1 = -1 ∨ nI 6 - 1 = nI 4) then f (4 + 1) else 0) = 0 := if_neg (by decide)
    have e5 : (if (nI 6 - 1 = -1 ∨ nI 6 - 1 = nI 5) then f (5 + 1) else 0) = f (5 + 1) := if_pos (by decide)
    have e6 : (if (nI 6 - 1 = -1 ∨ nI 6 - 1 = nI 6) then f (6 + 1) else 0) = 0 := if_neg (by decide)
    show ((((((0 + (if (nI 6 - 1 = -1 ∨ nI 6 - 1 = nI 0) then f (0 + 1) else 0)) + (if (nI 6 - 1 = -1 ∨ nI 6 - 1 = nI 1) then f (1 + 1) else 0)) + (if (nI 6 - 1 = -1 ∨ nI 6 - 1 = nI 2) then f (2 + 1) else 0)) + (if (nI 6 - 1 = -1 ∨ nI 6 - 1 = nI 3) then f (3 + 1) else 0)) + (if (nI 6 - 1 = -1 ∨ nI 6 - 1 = nI 4) then f (4 + 1) else 0)) + (if (nI 6 - 1 = -1 ∨ nI 6 - 1 = nI 5) then f (5 + 1) else 0)) + (if (nI 6 - 1 = -1 ∨ nI 6 - 1 = nI 6) then f (6 + 1) else 0) = f 6
    rw [e0, e1, e2, e3, e4, e5, e6]
    simp only [h0, h1]
  · subst e
    have e0 : (if (nI 7 - 1 = -1 ∨ nI 7 - 1 = nI 0) then f (0 + 1) else 0) = 0 := if_neg (by decide)
    have e1 : (if (nI 7 - 1 = -1 ∨ nI 7 - 1 = nI 1) then f (1 + 1) else 0) = 0 := if_neg (by decide)
    have e2 : (if (nI 7 - 1 = -1 ∨ nI 7 - 1 = nI 2) then f (2 + 1) else 0) = 0 := if_neg (by decide)
    have e3 : (if (nI 7 - 1 = -1 ∨ nI 7 - 1 = nI 3) then f (3 + 1) else 0) = 0 := if_neg (by decide)
    have e4 : (if (nI 7 - 1 = -1 ∨ nI 7 - 1 = nI 4) then f (4 + 1) else 0) = 0 := if_neg (by decide)
    have e5 : (if (nI 7 - 1 = -1 ∨ nI 7 - 1 = nI 5) then f (5 + 1) else 0) = 0 := if_neg (by decide)
    have e6 : (if (nI 7 - 1 = -1 ∨ nI 7 - 1 = nI 6) then f (6 + 1) else 0) = f (6 + 1) := if_pos (by decide)
    show ((((((0 + (if (nI 7 - 1 = -1 ∨ nI 7 - 1 = nI 0) then f (0 + 1) else 0)) + (if (nI 7 - 1 = -1 ∨ nI 7 - 1 = nI 1) then f (1 + 1) else 0)) + (if (nI 7 - 1 = -1 ∨ nI 7 - 1 = nI 2) then f (2 + 1) else 0)) + (if (nI 7 - 1 = -1 ∨ nI 7 - 1 = nI 3) then f (3 + 1) else 0)) + (if (nI 7 - 1 = -1 ∨ nI 7 - 1 = nI 4) then f (4 + 1) else 0)) + (if (nI 7 - 1 = -1 ∨ nI 7 - 1 = nI 5) then f (5 + 1) else 0)) + (if (nI 7 - 1 = -1 ∨ nI 7 - 1 = nI 6) then f (6 + 1) else 0) = f 7
    rw [e0, e1, e2, e3, e4, e5, e6]
    simp only [h0, h1]
theorem odds_ok : ∀ f, f ≤ 6 → ∀ n, n ≤ 23 → (f / Nat.gcd f 6) ^ n = f ^ n / Nat.gcd (6 ^ n) (f ^ n) ∧ (6 / Nat.gcd f 6) ^ n = 6 ^ n / Nat.gcd (6 ^ n) (f ^ n) := by decide +kernel
theorem odds_d : ∀ f, f ≤ 6 → Nat.gcd f 6 ≠ 0 ∧ Nat.gcd f 6 ≤ 6 ∧ f / Nat.gcd f 6 ≤ 6 ∧ 6 / Nat.gcd f 6 ≤ 6 := by decide
set_option maxHeartbeats 4000000 in
set_option maxRecDepth 100000 in
theorem k0_stormed (l : Launch) (t : CT) (r : Rw) (x : Nat → Rw) (n : Nat) (b : Nat) (hV : pV b r) (hbn : b + n < 2 ^ 30) : Met l yX0_stormed (ws_ yX0_stormed cX0_stormed 4 (some .int)) (rmF 8) (va_Pc [.ref (t.2.1 0), .int (nI n)] (fun U => cK t U ∧ cX t r x U.heap)) (kW (some (.int (p_sts n r 3))) (cX t (p_sts n r) (x)) (cA t)) 0 0 (cA t) := by
  refine kk_start (by decide) (Nat.le_of_ble_eq_true rfl) ?_
  intro p e s m below meth c S hr hlk hin hB ls hl
  obtain ⟨hK, hP⟩ := hB
  have hx := S.1
  have hb := S.2.1
  have hown : s.vm.findClass RX0 = some m.cls := S.2.2.2.1
  have hts := S.2.2.2.2
  have hS : va_S (cA t) s.heap s.heap [] := va_S.rf
  have hl : lv_has ls 4 [(0, .ref (t.2.1 0)), (1, .int ((nI n)))] := hl
  refine lv_iconst (v := 0) hx hb dX0_stormed_0 (by decide) ?_
  refine lv_istore_n (lv' := [(2, .int (0)), (0, .ref (t.2.1 0)), (1, .int ((nI n)))]) hx hb dX0_stormed_1 rfl hl (by decide) rfl (fun ls hl => ?_)
  have lp_2 : ∀ (j k : Nat) (r1 : Rw) (H : Heap) (locs : List Loc) (ls : Array Slot), k + j = n → (p_sts j r1 = p_sts n r) → (pV (b + k) r1) → cX t (r1) (x) H → va_S (cA t) s.heap H locs → lv_has ls 4 [(0, .ref (t.2.1 0)), (1, .int ((nI n))), (2, .int ((nI k)))] → W p l e (rmF 8) s m ([.ref (t.2.1 0), .int (nI n)] : List Value).toArray below meth c H locs 0 0 (MQ below (kW (some (.int (p_sts n r 3))) (cX t (p_sts n r) (x)) (cA t)) ([.ref (t.2.1 0), .int (nI n)] : List Value).toArray s 0 0 (cA t)) (F0 m 2 ls []) := by
    intro j
    induction j with
    | zero =>
      intro k  r1 H locs ls hkj he hV1 hP hS hl
      refine lv_iload_n hx hb dX0_stormed_2 rfl (lv_at hl 2 rfl) ?_
      refine lv_iload_n hx hb dX0_stormed_3 rfl (lv_at hl 1 rfl) ?_
      refine kb_ge_n (tgt := 47) (a := k) (b := n) S rfl rfl (by omega) (by omega) dX0_stormed_4 (by decide) (fun c_4 => ?_) (fun c_4 => ?_)
      · skip
        have he0 : r1 = p_sts n r := he
        subst he0
        refine lv_aload_n hx hb dX0_stormed_47 rfl (lv_at hl 0 rfl) ?_
        refine cg_d S hK hP dX0_stormed_48 ?_
        refine cd_claps S hK hP dX0_stormed_51 ?_
        exact kk_iretW S hr hlk hS (hP) (rfl) dX0_stormed_54
      · exact absurd c_4 (by omega)
    | succ j ih =>
      intro k  r1 H locs ls hkj he hV1 hP hS hl
      have ih_2 := ih
      refine lv_iload_n hx hb dX0_stormed_2 rfl (lv_at hl 2 rfl) ?_
      refine lv_iload_n hx hb dX0_stormed_3 rfl (lv_at hl 1 rfl) ?_
      refine kb_ge_n (tgt := 47) (a := k) (b := n) S rfl rfl (by omega) (by omega) dX0_stormed_4 (by decide) (fun c_4 => ?_) (fun c_4 => ?_)
      · exact absurd c_4 (by omega)
      · skip
        refine lv_aload_n hx hb dX0_stormed_7 rfl (lv_at hl 0 rfl) ?_
        refine cg_d S hK hP dX0_stormed_8 ?_
        refine d0_draw S hK hP hS (rm_ok (Nat.le_of_ble_eq_true rfl)) hl.1 (Nat.le_of_ble_eq_true rfl) dX0_stormed_11 (fun H locs hP hS => ?_)
        refine lv_bipush (v := 6) hx hb dX0_stormed_14 (by decide) ?_
        refine lv_irem hx hb dX0_stormed_16 (by decide) ?_
        refine kb_nat (y := nI (((p_dN r1) % 6))) (nn_rem rfl rfl (Nat.lt_trans (p_dN_lt _) (by decide)) (by decide) (by decide)) ?_
        refine lv_istore_n (lv' := [(3, .int ((nI ((p_dN r1) % 6)))), (0, .ref (t.2.1 0)), (1, .int ((nI n))), (2, .int ((nI k)))]) hx hb dX0_stormed_17 rfl hl (by decide) rfl (fun ls hl => ?_)
        refine lv_aload_n hx hb dX0_stormed_18 rfl (lv_at hl 1 rfl) ?_
        refine cg_d S hK hP dX0_stormed_19 ?_
        refine cd_list S hK hP dX0_stormed_22 ?_
        refine lv_iload_n hx hb dX0_stormed_25 rfl (lv_at hl 0 rfl) ?_
        refine lv_aload_n hx hb dX0_stormed_26 rfl (lv_at hl 1 rfl) ?_
        refine cg_d S hK hP dX0_stormed_27 ?_
        refine d0_draw S hK hP hS (rm_ok (Nat.le_of_ble_eq_true rfl)) hl.1 (Nat.le_of_ble_eq_true rfl) dX0_stormed_30 (fun H locs hP hS => ?_)
        refine lv_bipush (v := 100) hx hb dX0_stormed_33 (by decide) ?_
        refine lv_irem hx hb dX0_stormed_35 (by decide) ?_
        refine kb_nat (y := nI (((p_dN (p_draw r1)) % 100))) (nn_rem rfl rfl (Nat.lt_trans (p_dN_lt _) (by decide)) (by decide) (by decide)) ?_
        refine ck_stl S hK hP hS (fun _ h => h) (((p_dN r1) % 6)) (by omega) rfl dX0_stormed_36 (fun H locs hP hS => ?_)
        refine lv_aload_n hx hb dX0_stormed_37 rfl (lv_at hl 1 rfl) ?_
        refine cc_passes_2 S hK hP hS (rm_ok (Nat.le_of_ble_eq_true rfl)) hl.1 ((b + k)) (pV_free (pV_draw (pV_draw hV1)) (by omega)) (by omega) (Nat.le_of_ble_eq_true rfl) dX0_stormed_38 (fun H locs hP hS => ?_)
        refine lv_iinc (v := (nI (k + 1))) (lv' := [(2, .int ((nI (k + 1)))), (3, .int ((nI ((p_dN r1) % 6)))), (0, .ref (t.2.1 0)), (1, .int ((nI n)))]) hx hb dX0_stormed_41 hl (k := 3) rfl (nn_1 rfl) (by decide) rfl (fun ls hl => ?_)
        refine lv_goto (tgt := 2) hx hb dX0_stormed_44 (by decide) ?_
        exact ih_2 ((k + 1)) _ _ _ ls (by omega) (by have h := he; rw [p_sts] at h; exact h) (pV_st1 (b := b + k) hV1 (by omega)) hP hS (lv_sub hl [2, 3, 0] rfl)
  exact lp_2 n 0 _ _ _ ls (by omega) (rfl) (hV) hP hS (lv_sub hl [1, 2, 0] rfl)
section CC
variable {p : Program} {l : Launch} {e : Env} {R : Room} {s : State} {m : MethodId} {args : Array Value} {below : List Frame} {meth : Method} {c : Code} {H H0 : Heap} {locs : List Loc} {cells slots : Nat} {Q : State → Prop}
variable {cc : ByteArray} {pc nL : Nat} {ls : Array Slot} {rest : List Value} {t : CT} {r : Rw} {x : Nat → Rw}
theorem cc_stormed (S : CallFix p m c cc nL s args lw_all RX0) (hK : cK t s) (hP : cX t r x H) (hS : va_S (cA t) H0 H locs) (hR : kRm R 9 cells slots) (hsz : ls.size = nL) (n : Nat) (b : Nat) (hV : pV b r) (hbn : b + n < 2 ^ 30) {i0 : Int32} (e0 : i0 = nI n) (hrest : (rest.map fun v => v.category).sum ≤ 8) (hdg : decode cc pc = .ok (.invokevirtual 326, 3)) (kk : ∀ (H1 : Heap) (locs1 : List Loc), cX t (p_sts n r) (x) H1 → va_S (cA t) H0 H1 locs1 → W p l e R s m args below meth c H1 locs1 cells slots Q (F0 m (pc + 3) ls (.int (p_sts n r 3) :: rest))) : W p l e R s m args below meth c H locs cells slots Q (F0 m pc ls (.int i0 :: .ref (t.2.1 0) :: rest)) := by
  subst e0
  exact kk_Wi (W.runV (As := [.int (nI n)]) (rest := rest) S (k0_stormed l t r x n b hV hbn) (cwV 1 S.2.2.2.2 (lw_V q989 q991 qs37 q101 q992) rfl rfl rfl (by decide +kernel) ⟨hR.1, by have := hR.2.1; show 8 + (4 + 11) + 38 * 8 ≤ R.locals; omega⟩) ⟨c_blind, c_recv hK hP, c_pre hK hP⟩ rfl rfl hsz rfl (lv_room hrest) hdg ⟨hR.2.2.1, hR.2.2.2⟩) hS (fun _ h => h) (fun _ h => h) (fun H1 locs1 hB _ _ hS => kk H1 locs1 hB hS)
end CC
set_option maxHeartbeats 4000000 in
set_option maxRecDepth 100000 in
theorem k0_storms (l : Launch) (t : CT) (r : Rw) (x : Nat → Rw) (n : Int32) (b : Nat) (hV : pV b r) (hb : b ≤ 99999) : Met l yX0_storms (ws_ yX0_storms cX0_storms 2 (some .int)) (rmF 9) (va_Pc [.ref (t.2.1 0), .int n] (fun U => cK t U ∧ cX t r x U.heap)) (kW (some (.int ((o_storms r n).1))) (cX t ((o_storms r n).2.1) (fx x (o_storms r n).2.2)) (cA t)) 0 0 (cA t) := by
  refine kk_start (by decide) (Nat.le_of_ble_eq_true rfl) ?_
  intro p e s m below meth c S hr hlk hin hB ls hl
  obtain ⟨hK, hP⟩ := hB
  have hx := S.1
  have hb := S.2.1
  have hown : s.vm.findClass RX0 = some m.cls := S.2.2.2.1
  have hts := S.2.2.2.2
  have hS : va_S (cA t) s.heap s.heap [] := va_S.rf
  have hl : lv_has ls 2 [(0, .ref (t.2.1 0)), (1, .int (n))] := hl
  have hn := hV.n.1
  have hn8 := hV.n.2
  have hd := (hV.d (by omega)).1
  have hdb := (hV.d (by omega)).2
  refine lv_iload_n hx hb dX0_storms_0 rfl (lv_at hl 1 rfl) ?_
  refine lv_iconst (v := 1) hx hb dX0_storms_1 (by decide) ?_
  refine lv_bipush (v := 20) hx hb dX0_storms_2 (by decide) ?_
  refine cc_in S (rm_ok (Nat.le_of_ble_eq_true rfl)) hl.1 (Nat.le_of_ble_eq_true rfl) dX0_storms_4 ?_
  refine kb_ifne (tgt := 16) S dX0_storms_7 (by decide) (fun c_7 => ?_) (fun c_7 => ?_)
  · skip
    obtain ⟨n_, hn_, rfl⟩ := nat_of_1 (n := 20) (rfl) (by omega) c_7
    have hcl_n_ := nI_clamp (n := n_) (by omega)
    refine lv_aload_n hx hb dX0_storms_16 rfl (lv_at hl 0 rfl) ?_
    refine cg_d S hK hP dX0_storms_17 ?_
    refine lv_iload_n hx hb dX0_storms_20 rfl (lv_at hl 1 rfl) ?_
    refine d0_isLate S hK hP (rm_ok (Nat.le_of_ble_eq_true rfl)) hl.1 (n_) (b) hV (by omega) (by omega) rfl (Nat.le_of_ble_eq_true rfl) dX0_storms_21 ?_
    refine kb_ifeq (tgt := 35) S dX0_storms_24 (by decide) (fun c_24 => ?_) (fun c_24 => ?_)
    · skip
      refine lv_aload_n hx hb dX0_storms_35 rfl (lv_at hl 0 rfl) ?_
      refine lv_iload_n hx hb dX0_storms_36 rfl (lv_at hl 1 rfl) ?_
      refine cc_stormed S hK hP hS (rm_ok (Nat.le_of_ble_eq_true rfl)) hl.1 (n_) (b) hV (by omega) rfl (Nat.le_of_ble_eq_true rfl) dX0_storms_37 (fun H locs hP hS => ?_)
      have ho : o_storms r (nI n_) = (p_sts n_ r 3, (p_sts n_ r), none) := by first | (simp only [o_storms, c_7, c_24, hcl_n_, Nat.not_lt.mp c_24, reduceIte, and_self, oF, oK]; done) | (simp [o_storms, oF, oK, fnd, c_7, c_24, hcl_n_, Nat.not_lt.mp c_24]; done) | (unfold o_storms oF oK; grind)
      exact kk_iretW S hr hlk hS (by rw [ho]; exact hP) (by rw [ho]) dX0_storms_40
    · skip
      refine lv_aload_n hx hb dX0_storms_27 rfl (lv_at hl 0 rfl) ?_
      refine lv_iconst (v := 4) hx hb dX0_storms_28 (by decide) ?_
      refine cc_finding S hK hP hS (rm_ok (Nat.le_of_ble_eq_true rfl)) hl.1 (4) (by omega) rfl (Nat.le_of_ble_eq_true rfl) dX0_storms_29 (fun H locs hP hS => ?_)
      refine lv_goto (tgt := 40) hx hb dX0_storms_32 (by decide) ?_
      have ho : o_storms r (nI n_) = (fnd 4, r, some 4) := by first | (simp only [o_storms, c_7, c_24, hcl_n_, Nat.not_le.mpr c_24, reduceIte, and_self, oF, oK]; done) | (simp [o_storms, oF, oK, fnd, c_7, c_24, hcl_n_, Nat.not_le.mpr c_24]; done) | (unfold o_storms oF oK; grind)
      exact kk_iretW S hr hlk hS (by rw [ho]; exact hP) (by rw [ho]) dX0_storms_40
  · skip
    refine lv_aload_n hx hb dX0_storms_10 rfl (lv_at hl 0 rfl) ?_
    refine lv_iconst (v := 0) hx hb dX0_storms_11 (by decide) ?_
    refine cc_finding S hK hP hS (rm_ok (Nat.le_of_ble_eq_true rfl)) hl.1 (0) (by omega) rfl (Nat.le_of_ble_eq_true rfl) dX0_storms_12 (fun H locs hP hS => ?_)
    have ho : o_storms r n = (fnd 0, r, some 0) := by first | (simp only [o_storms, c_7, reduceIte, and_self, oF, oK]; done) | (simp [o_storms, oF, oK, fnd, c_7]; done) | (unfold o_storms oF oK; grind)
    exact kk_iretW S hr hlk hS (by rw [ho]; exact hP) (by rw [ho]) dX0_storms_15
set_option maxHeartbeats 4000000 in
set_option maxRecDepth 100000 in
theorem k0_seed (l : Launch) (t : CT) (r : Rw) (x : Nat → Rw) (v : Int32) : Met l yX0_seed (ws_ yX0_seed cX0_seed 3 (some .int)) (rmF 0) (va_Pc [.ref (t.2.1 0), .int v] (fun U => cK t U ∧ cX t r x U.heap)) (kW (some (.int ((o_seed r v).1))) (cX t ((o_seed r v).2.1) (fx x (o_seed r v).2.2)) (cA t)) 0 0 (cA t) := by
  refine kk_start (by decide) (Nat.le_of_ble_eq_true rfl) ?_
  intro p e s m below meth c S hr hlk hin hB ls hl
  obtain ⟨hK, hP⟩ := hB
  have hx := S.1
  have hb := S.2.1
  have hown : s.vm.findClass RX0 = some m.cls := S.2.2.2.1
  have hts := S.2.2.2.2
  have hS : va_S (cA t) s.heap s.heap [] := va_S.rf
  have hl : lv_has ls 3 [(0, .ref (t.2.1 0)), (1, .int (v))] := hl
  refine lv_aload_n hx hb dX0_seed_0 rfl (lv_at hl 0 rfl) ?_
  refine cg_d S hK hP dX0_seed_1 ?_
  refine cd_z S hK hP dX0_seed_4 ?_
  refine lv_istore_n (lv' := [(2, .int (r 2)), (0, .ref (t.2.1 0)), (1, .int (v))]) hx hb dX0_seed_7 rfl hl (by decide) rfl (fun ls hl => ?_)
  refine lv_aload_n hx hb dX0_seed_8 rfl (lv_at hl 1 rfl) ?_
  refine cg_d S hK hP dX0_seed_9 ?_
  refine lv_iload_n hx hb dX0_seed_12 rfl (lv_at hl 2 rfl) ?_
  refine cdp_z S hK hP hS (fun _ h => h) dX0_seed_13 (fun H locs hP hS => ?_)
  refine lv_iload_n hx hb dX0_seed_16 rfl (lv_at hl 0 rfl) ?_
  have ho : o_seed r v = (r 2, (upd r 2 v), none) := by first | (simp only [o_seed, reduceIte, and_self, oF, oK]; done) | (simp [o_seed, oF, oK, fnd]; done) | (unfold o_seed oF oK; grind)
  exact kk_iretW S hr hlk hS (by rw [ho]; exact hP) (by rw [ho]) dX0_seed_17
set_option maxHeartbeats 4000000 in
set_option maxRecDepth 100000 in
theorem k0_wipe (l : Launch) (t : CT) (r : Rw) (x : Nat → Rw) : Met l yX0_wipe (ws_ yX0_wipe cX0_wipe 2 (some .int)) (rmF 0) (va_Pc [.ref (t.2.1 0)] (fun U => cK t U ∧ cX t r x U.heap)) (kW (some (.int (x 9 1))) (cX t (r) (va_up x 9 (upd (x 9) 1 0))) (cA t)) 0 0 (cA t) := by
  refine kk_start (by decide) (Nat.le_of_ble_eq_true rfl) ?_
  intro p e s m below meth c S hr hlk hin hB ls hl
  obtain ⟨hK, hP⟩ := hB
  have hx := S.1
  have hb := S.2.1
  have hown : s.vm.findClass RX0 = some m.cls := S.2.2.2.1
  have hts := S.2.2.2.2
  have hS : va_S (cA t) s.heap s.heap [] := va_S.rf
  have hl : lv_has ls 2 [(0, .ref (t.2.1 0))] := hl
  refine lv_aload_n hx hb dX0_wipe_0 rfl (lv_at hl 0 rfl) ?_
  refine cg_taped S hK hP dX0_wipe_1 ?_
  refine lv_istore_n (lv' := [(1, .int (x 9 1)), (0, .ref (t.2.1 0))]) hx hb dX0_wipe_4 rfl hl (by decide) rfl (fun ls hl => ?_)
  refine lv_aload_n hx hb dX0_wipe_5 rfl (lv_at hl 1 rfl) ?_
  refine lv_iconst (v := 0) hx hb dX0_wipe_6 (by decide) ?_
  refine cp_taped S hK hP hS (fun _ h => h) dX0_wipe_7 (fun H locs hP hS => ?_)
  refine lv_iload_n hx hb dX0_wipe_10 rfl (lv_at hl 0 rfl) ?_
  exact kk_iretW S hr hlk hS (hP) (rfl) dX0_wipe_11
set_option maxHeartbeats 4000000 in
set_option maxRecDepth 100000 in
theorem k0_image (l : Launch) (t : CT) (r : Rw) (x : Nat → Rw) : Met l yX0_image (ws_ yX0_image cX0_image 1 (some .int)) (rmF 3) (va_Pc [.ref (t.2.1 0)] (fun U => cK t U ∧ cX t r x U.heap)) (kW (some (.int (1))) (cX t (r) (va_up (va_up x 1 r) 9 (upd (x 9) 0 1))) (cA t)) 0 0 (cA t) := by
  refine kk_start (by decide) (Nat.le_of_ble_eq_true rfl) ?_
  intro p e s m below meth c S hr hlk hin hB ls hl
  obtain ⟨hK, hP⟩ := hB
  have hx := S.1
  have hb := S.2.1
  have hown : s.vm.findClass RX0 = some m.cls := S.2.2.2.1
  have hts := S.2.2.2.2
  have hS : va_S (cA t) s.heap s.heap [] := va_S.rf
  have hl : lv_has ls 1 [(0, .ref (t.2.1 0))] := hl
  refine lv_aload_n hx hb dX0_image_0 rfl (lv_at hl 0 rfl) ?_
  refine cg_kept S hK hP dX0_image_1 ?_
  refine lv_aload_n hx hb dX0_image_4 rfl (lv_at hl 0 rfl) ?_
  refine cg_d S hK hP dX0_image_5 ?_
  refine cb_kept_d S hK hP hS (fun _ h => h) (rm_ok (Nat.le_of_ble_eq_true rfl)) hl.1 (Nat.le_of_ble_eq_true rfl) dX0_image_8 (fun H locs hP hS => ?_)
  refine lv_aload_n hx hb dX0_image_11 rfl (lv_at hl 0 rfl) ?_
  refine lv_iconst (v := 1) hx hb dX0_image_12 (by decide) ?_
  refine cp_isKept S hK hP hS (fun _ h => h) rfl rfl dX0_image_13 (fun H locs hP hS => ?_)
  refine lv_iconst (v := 1) hx hb dX0_image_16 (by decide) ?_
  exact kk_iretW S hr hlk hS (hP) (rfl) dX0_image_17
set_option maxHeartbeats 4000000 in
set_option maxRecDepth 100000 in
theorem k0_undo (l : Launch) (t : CT) (r : Rw) (x : Nat → Rw) : Met l yX0_undo (ws_ yX0_undo cX0_undo 1 (some .int)) (rmF 3) (va_Pc [.ref (t.2.1 0)] (fun U => cK t U ∧ cX t r x U.heap)) (kW (some (.int (if x 9 0 = 0 then fnd 3 else x 1 1))) (cX t (if x 9 0 = 0 then r else x 1) (if x 9 0 = 0 then va_up x 4 (p_fnd (x 4) 3) else x)) (cA t)) 0 0 (cA t) := by
  refine kk_start (by decide) (Nat.le_of_ble_eq_true rfl) ?_
  intro p e s m below meth c S hr hlk hin hB ls hl
  obtain ⟨hK, hP⟩ := hB
  have hx := S.1
  have hb := S.2.1
  have hown : s.vm.findClass RX0 = some m.cls := S.2.2.2.1
  have hts := S.2.2.2.2
  have hS : va_S (cA t) s.heap s.heap [] := va_S.rf
  have hl : lv_has ls 1 [(0, .ref (t.2.1 0))] := hl
  refine lv_aload_n hx hb dX0_undo_0 rfl (lv_at hl 0 rfl) ?_
  refine cg_isKept S hK hP dX0_undo_1 ?_
  refine lv_if_ne (tgt := 13) hx hb dX0_undo_4 (by decide) (fun c_4 => ?_) (fun c_4 => ?_)
  · skip
    refine lv_aload_n hx hb dX0_undo_13 rfl (lv_at hl 0 rfl) ?_
    refine cg_d S hK hP dX0_undo_14 ?_
    refine lv_aload_n hx hb dX0_undo_17 rfl (lv_at hl 0 rfl) ?_
    refine cg_kept S hK hP dX0_undo_18 ?_
    refine cb_d_kept S hK hP hS (fun _ h => h) (rm_ok (Nat.le_of_ble_eq_true rfl)) hl.1 (Nat.le_of_ble_eq_true rfl) dX0_undo_21 (fun H locs hP hS => ?_)
    refine lv_aload_n hx hb dX0_undo_24 rfl (lv_at hl 0 rfl) ?_
    refine cg_d S hK hP dX0_undo_25 ?_
    refine cd_day S hK hP dX0_undo_28 ?_
    exact kk_iretW S hr hlk hS (by rw [if_neg c_4, if_neg c_4]; exact hP) (by rw [if_neg c_4]) dX0_undo_31
  · skip
    have c_4 : x 9 0 = 0 := by grind
    refine lv_aload_n hx hb dX0_undo_7 rfl (lv_at hl 0 rfl) ?_
    refine lv_iconst (v := 3) hx hb dX0_undo_8 (by decide) ?_
    refine cc_finding S hK hP hS (rm_ok (Nat.le_of_ble_eq_true rfl)) hl.1 (3) (by omega) rfl (Nat.le_of_ble_eq_true rfl) dX0_undo_9 (fun H locs hP hS => ?_)
    exact kk_iretW S hr hlk hS (by rw [if_pos c_4, if_pos c_4]; exact hP) (by rw [if_pos c_4]) dX0_undo_12
set_option maxHeartbeats 4000000 in
set_option maxRecDepth 100000 in
theorem k0_tear (l : Launch) (t : CT) (r : Rw) (x : Nat → Rw) : Met l yX0_tear (ws_ yX0_tear cX0_tear 2 (some .int)) (rmF 0) (va_Pc [.ref (t.2.1 0)] (fun U => cK t U ∧ cX t r x U.heap)) (kW (some (.int (if x 9 0 = 0 then 0 else 1))) (cX t (r) (va_up x 9 (upd (x 9) 0 0))) (cA t)) 0 0 (cA t) := by
  refine kk_start (by decide) (Nat.le_of_ble_eq_true rfl) ?_
  intro p e s m below meth c S hr hlk hin hB ls hl
  obtain ⟨hK, hP⟩ := hB
  have hx := S.1
  have hb := S.2.1
  have hown : s.vm.findClass RX0 = some m.cls := S.2.2.2.1
  have hts := S.2.2.2.2
  have hS : va_S (cA t) s.heap s.heap [] := va_S.rf
  have hl : lv_has ls 2 [(0, .ref (t.2.1 0))] := hl
  refine lv_aload_n hx hb dX0_tear_0 rfl (lv_at hl 0 rfl) ?_
  refine cg_isKept S hK hP dX0_tear_1 ?_
  refine lv_if_eq (tgt := 11) hx hb dX0_tear_4 (by decide) (fun c_4 => ?_) (fun c_4 => ?_)
  · skip
    refine lv_iconst (v := 0) hx hb dX0_tear_11 (by decide) ?_
    refine lv_istore_n (lv' := [(1, .int (0)), (0, .ref (t.2.1 0))]) hx hb dX0_tear_12 rfl hl (by decide) rfl (fun ls hl => ?_)
    refine lv_aload_n hx hb dX0_tear_13 rfl (lv_at hl 1 rfl) ?_
    refine lv_iconst (v := 0) hx hb dX0_tear_14 (by decide) ?_
    refine cp_isKept S hK hP hS (fun _ h => h) rfl rfl dX0_tear_15 (fun H locs hP hS => ?_)
    refine lv_iload_n hx hb dX0_tear_18 rfl (lv_at hl 0 rfl) ?_
    exact kk_iretW S hr hlk hS (hP) (by rw [if_pos c_4]) dX0_tear_19
  · skip
    refine lv_iconst (v := 1) hx hb dX0_tear_7 (by decide) ?_
    refine lv_goto (tgt := 12) hx hb dX0_tear_8 (by decide) ?_
    refine lv_istore_n (lv' := [(1, .int (1)), (0, .ref (t.2.1 0))]) hx hb dX0_tear_12 rfl hl (by decide) rfl (fun ls hl => ?_)
    refine lv_aload_n hx hb dX0_tear_13 rfl (lv_at hl 1 rfl) ?_
    refine lv_iconst (v := 0) hx hb dX0_tear_14 (by decide) ?_
    refine cp_isKept S hK hP hS (fun _ h => h) rfl rfl dX0_tear_15 (fun H locs hP hS => ?_)
    refine lv_iload_n hx hb dX0_tear_18 rfl (lv_at hl 0 rfl) ?_
    exact kk_iretW S hr hlk hS (hP) (by rw [if_neg c_4]) dX0_tear_19
set_option maxHeartbeats 4000000 in
set_option maxRecDepth 100000 in
theorem k0_hold (l : Launch) (t : CT) (r : Rw) (x : Nat → Rw) (y : Int32) (a : Int32) (b : Nat) (hV : pV b r) : Met l yX0_hold (ws_ yX0_hold cX0_hold 3 (some .int)) (rmF 2) (va_Pc [.ref (t.2.1 0), .int y, .int a] (fun U => cK t U ∧ cX t r x U.heap)) (kW (some (.int ((o_hold r y a).1))) (cX t ((o_hold r y a).2.1) (fx x (o_hold r y a).2.2)) (cA t)) 0 0 (cA t) := by
  refine kk_start (by decide) (Nat.le_of_ble_eq_true rfl) ?_
  intro p e s m below meth c S hr hlk hin hB ls hl
  obtain ⟨hK, hP⟩ := hB
  have hx := S.1
  have hb := S.2.1
  have hown : s.vm.findClass RX0 = some m.cls := S.2.2.2.1
  have hts := S.2.2.2.2
  have hS : va_S (cA t) s.heap s.heap [] := va_S.rf
  have hl : lv_has ls 3 [(0, .ref (t.2.1 0)), (1, .int (y)), (2, .int (a))] := hl
  refine lv_iload_n hx hb dX0_hold_0 rfl (lv_at hl 1 rfl) ?_
  refine cc_isSpot S (rm_ok (Nat.le_of_ble_eq_true rfl)) hl.1 (Nat.le_of_ble_eq_true rfl) dX0_hold_1 ?_
  refine kb_ifeq (tgt := 20) S dX0_hold_4 (by decide) (fun c_4 => ?_) (fun c_4 => ?_)
  · skip
    refine lv_aload_n hx hb dX0_hold_20 rfl (lv_at hl 0 rfl) ?_
    refine lv_iconst (v := 0) hx hb dX0_hold_21 (by decide) ?_
    refine cc_finding S hK hP hS (rm_ok (Nat.le_of_ble_eq_true rfl)) hl.1 (0) (by omega) rfl (Nat.le_of_ble_eq_true rfl) dX0_hold_22 (fun H locs hP hS => ?_)
    have ho : o_hold r y a = (fnd 0, r, some 0) := by first | (simp only [o_hold, c_4, reduceIte, and_self, oF, oK]; done) | (simp [o_hold, oF, oK, fnd, c_4]; done) | (unfold o_hold oF oK; grind)
    exact kk_iretW S hr hlk hS (by rw [ho]; exact hP) (by rw [ho]) dX0_hold_25
  · skip
    obtain ⟨y_, hy_, rfl⟩ := nat_of_le (n := 9) (rfl) (by omega) c_4
    have hcl_y_ := nI_clamp (n := y_) (by omega)
    refine lv_iload_n hx hb dX0_hold_7 rfl (lv_at hl 2 rfl) ?_
    refine lv_iconst (v := (-1)) hx hb dX0_hold_8 (by decide) ?_
    refine lv_icmp_eq (tgt := 26) hx hb dX0_hold_9 (by decide) (fun c_9 => ?_) (fun c_9 => ?_)
    · skip
      have hor : a = -1 ∨ (0 ≤ a ∧ a < r 0) := Or.inl c_9
      refine lv_aload_n hx hb dX0_hold_26 rfl (lv_at hl 0 rfl) ?_
      refine cg_d S hK hP dX0_hold_27 ?_
      refine cd_holds S hK hP dX0_hold_30 ?_
      refine lv_iload_n hx hb dX0_hold_33 rfl (lv_at hl 1 rfl) ?_
      refine lv_iload_n hx hb dX0_hold_34 rfl (lv_at hl 2 rfl) ?_
      refine ck_sth S hK hP hS (fun _ h => h) (y_) (by omega) rfl dX0_hold_35 (fun H locs hP hS => ?_)
      refine lv_iconst (v := 1) hx hb dX0_hold_36 (by decide) ?_
      have ho : o_hold r (nI y_) a = (1, (upd r (72 + y_) a), none) := by first | (simp only [o_hold, c_4, hcl_y_, hor, reduceIte, and_self, oF, oK]; done) | (simp [o_hold, oF, oK, fnd, c_4, hcl_y_, hor]; done) | (unfold o_hold oF oK; grind)
      exact kk_iretW S hr hlk hS (by rw [ho]; exact hP) (by rw [ho]) dX0_hold_37
    · skip
      refine lv_aload_n hx hb dX0_hold_12 rfl (lv_at hl 0 rfl) ?_
      refine lv_iload_n hx hb dX0_hold_13 rfl (lv_at hl 2 rfl) ?_
      refine cc_isCask S hK hP (rm_ok (Nat.le_of_ble_eq_true rfl)) hl.1 (b) hV (Nat.le_of_ble_eq_true rfl) dX0_hold_14 ?_
      refine kb_ifne (tgt := 26) S dX0_hold_17 (by decide) (fun c_17 => ?_) (fun c_17 => ?_)
      · skip
        have hor : a = -1 ∨ (0 ≤ a ∧ a < r 0) := Or.inr c_17
        refine lv_aload_n hx hb dX0_hold_26 rfl (lv_at hl 0 rfl) ?_
        refine cg_d S hK hP dX0_hold_27 ?_
        refine cd_holds S hK hP dX0_hold_30 ?_
        refine lv_iload_n hx hb dX0_hold_33 rfl (lv_at hl 1 rfl) ?_
        refine lv_iload_n hx hb dX0_hold_34 rfl (lv_at hl 2 rfl) ?_
        refine ck_sth S hK hP hS (fun _ h => h) (y_) (by omega) rfl dX0_hold_35 (fun H locs hP hS => ?_)
        refine lv_iconst (v := 1) hx hb dX0_hold_36 (by decide) ?_
        have ho : o_hold r (nI y_) a = (1, (upd r (72 + y_) a), none) := by first | (simp only [o_hold, c_4, hcl_y_, hor, reduceIte, and_self, oF, oK]; done) | (simp [o_hold, oF, oK, fnd, c_4, hcl_y_, hor]; done) | (unfold o_hold oF oK; grind)
        exact kk_iretW S hr hlk hS (by rw [ho]; exact hP) (by rw [ho]) dX0_hold_37
      · skip
        have hor : ¬ (a = -1 ∨ (0 ≤ a ∧ a < r 0)) := fun z => z.elim c_9 c_17
        refine lv_aload_n hx hb dX0_hold_20 rfl (lv_at hl 0 rfl) ?_
        refine lv_iconst (v := 0) hx hb dX0_hold_21 (by decide) ?_
        refine cc_finding S hK hP hS (rm_ok (Nat.le_of_ble_eq_true rfl)) hl.1 (0) (by omega) rfl (Nat.le_of_ble_eq_true rfl) dX0_hold_22 (fun H locs hP hS => ?_)
        have ho : o_hold r (nI y_) a = (fnd 0, r, some 0) := by first | (simp only [o_hold, c_4, hcl_y_, hor, reduceIte, and_self, oF, oK]; done) | (simp [o_hold, oF, oK, fnd, c_4, hcl_y_, hor]; done) | (unfold o_hold oF oK; grind)
        exact kk_iretW S hr hlk hS (by rw [ho]; exact hP) (by rw [ho]) dX0_hold_25
set_option maxHeartbeats 4000000 in
set_option maxRecDepth 100000 in
theorem k0_holding (l : Launch) (t : CT) (r : Rw) (x : Nat → Rw) (b : Nat) (hV : pV b r) : Met l yX0_holding (ws_ yX0_holding cX0_holding 6 (some .int)) (rmF 0) (va_Pc [.ref (t.2.1 0)] (fun U => cK t U ∧ cX t r x U.heap)) (kR (some (.int (p_hold r)))) 0 0 (fun _ => False) := by
  refine kk_start (by decide) (Nat.le_of_ble_eq_true rfl) ?_
  intro p e s m below meth c S hr hlk hin hB ls hl
  obtain ⟨hK, hP⟩ := hB
  have hx := S.1
  have hb := S.2.1
  have hown : s.vm.findClass RX0 = some m.cls := S.2.2.2.1
  have hts := S.2.2.2.2
  have hl : lv_has ls 6 [(0, .ref (t.2.1 0))] := hl
  refine lv_iconst (v := 0) hx hb dX0_holding_0 (by decide) ?_
  refine lv_istore_n (lv' := [(1, .int (0)), (0, .ref (t.2.1 0))]) hx hb dX0_holding_1 rfl hl (by decide) rfl (fun ls hl => ?_)
  refine lv_aload_n hx hb dX0_holding_2 rfl (lv_at hl 1 rfl) ?_
  refine cg_d S hK hP dX0_holding_3 ?_
  refine cd_holds S hK hP dX0_holding_6 ?_
  refine lv_astore_n (lv' := [(2, .ref (t.2.1 104)), (1, .int (0)), (0, .ref (t.2.1 0))]) hx hb dX0_holding_9 rfl hl (by decide) rfl (fun ls hl => ?_)
  refine lv_aload_n hx hb dX0_holding_10 rfl (lv_at hl 0 rfl) ?_
  refine ck_lenH S hK hP dX0_holding_11 ?_
  refine lv_istore_n (lv' := [(3, .int ((nI 10))), (2, .ref (t.2.1 104)), (1, .int (0)), (0, .ref (t.2.1 0))]) hx hb dX0_holding_12 rfl hl (by decide) rfl (fun ls hl => ?_)
  refine lv_iconst (v := 0) hx hb dX0_holding_13 (by decide) ?_
  refine lv_istore (lv' := [(4, .int (0)), (3, .int ((nI 10))), (2, .ref (t.2.1 104)), (1, .int (0)), (0, .ref (t.2.1 0))]) hx hb dX0_holding_14 hl (by decide) rfl (fun ls hl => ?_)
  have lp_16 : ∀ (j k : Nat) (q : Int32) (ls : Array Slot), k + j = 10 → (lp (fun k n => n + (if 0 ≤ r (72 + k) then 1 else 0)) j k q = p_hold r) → lv_has ls 6 [(0, .ref (t.2.1 0)), (1, .int (q)), (2, .ref (t.2.1 104)), (3, .int ((nI 10))), (4, .int ((nI k)))] → W p l e (rmF 0) s m ([.ref (t.2.1 0)] : List Value).toArray below meth c s.heap [] 0 0 (MQ below (kR (some (.int (p_hold r)))) ([.ref (t.2.1 0)] : List Value).toArray s 0 0 (fun _ => False)) (F0 m 16 ls []) := by
    intro j
    induction j with
    | zero =>
      intro k q ls hkj he hl
      refine lv_iload hx hb dX0_holding_16 (lv_at hl 4 rfl) ?_
      refine lv_iload_n hx hb dX0_holding_18 rfl (lv_at hl 3 rfl) ?_
      refine kb_ge_n (tgt := 48) (a := k) (b := 10) S rfl rfl (by omega) (by omega) dX0_holding_19 (by decide) (fun c_19 => ?_) (fun c_19 => ?_)
      · skip
        refine lv_iload_n hx hb dX0_holding_48 rfl (lv_at hl 1 rfl) ?_
        exact kk_iretR S hr hlk rfl rfl (by rw [← he]; rfl) dX0_holding_49
      · exact absurd c_19 (by omega)
    | succ j ih =>
      intro k q ls hkj he hl
      have ih_16 := ih
      refine lv_iload hx hb dX0_holding_16 (lv_at hl 4 rfl) ?_
      refine lv_iload_n hx hb dX0_holding_18 rfl (lv_at hl 3 rfl) ?_
      refine kb_ge_n (tgt := 48) (a := k) (b := 10) S rfl rfl (by omega) (by omega) dX0_holding_19 (by decide) (fun c_19 => ?_) (fun c_19 => ?_)
      · exact absurd c_19 (by omega)
      · skip
        refine lv_aload_n hx hb dX0_holding_22 rfl (lv_at hl 2 rfl) ?_
        refine lv_iload hx hb dX0_holding_23 (lv_at hl 4 rfl) ?_
        refine ck_ldh S hK hP (k) (by omega) rfl dX0_holding_25 ?_
        refine lv_istore (lv' := [(5, .int (r (72 + k))), (0, .ref (t.2.1 0)), (1, .int (q)), (2, .ref (t.2.1 104)), (3, .int ((nI 10))), (4, .int ((nI k)))]) hx hb dX0_holding_26 hl (by decide) rfl (fun ls hl => ?_)
        refine lv_iload_n hx hb dX0_holding_28 rfl (lv_at hl 2 rfl) ?_
        refine lv_iload hx hb dX0_holding_29 (lv_at hl 0 rfl) ?_
        refine lv_iconst (v := (-1)) hx hb dX0_holding_31 (by decide) ?_
        refine lv_icmp_ne (tgt := 39) hx hb dX0_holding_32 (by decide) (fun c_32 => ?_) (fun c_32 => ?_)
        · skip
          refine lv_iconst (v := 1) hx hb dX0_holding_39 (by decide) ?_
          refine lv_iadd hx hb dX0_holding_40 ?_
          refine lv_istore_n (lv' := [(1, .int ((q + 1))), (5, .int (r (72 + k))), (0, .ref (t.2.1 0)), (2, .ref (t.2.1 104)), (3, .int ((nI 10))), (4, .int ((nI k)))]) hx hb dX0_holding_41 rfl hl (by decide) rfl (fun ls hl => ?_)
          refine lv_iinc (v := (nI (k + 1))) (lv' := [(4, .int ((nI (k + 1)))), (1, .int ((q + 1))), (5, .int (r (72 + k))), (0, .ref (t.2.1 0)), (2, .ref (t.2.1 104)), (3, .int ((nI 10)))]) hx hb dX0_holding_42 hl (k := 5) rfl (nn_1 rfl) (by decide) rfl (fun ls hl => ?_)
          refine lv_goto (tgt := 16) hx hb dX0_holding_45 (by decide) ?_
          exact ih_16 ((k + 1)) _ ls (by omega) (by have h := he; simp only [lp] at h; rw [if_pos ((hV.sp (by omega)).mp c_32)] at h; exact h) (lv_sub hl [3, 1, 4, 5, 0] rfl)
        · skip
          refine lv_iconst (v := 0) hx hb dX0_holding_35 (by decide) ?_
          refine lv_goto (tgt := 40) hx hb dX0_holding_36 (by decide) ?_
          refine lv_iadd hx hb dX0_holding_40 ?_
          refine lv_istore_n (lv' := [(1, .int ((q + 0))), (5, .int (r (72 + k))), (0, .ref (t.2.1 0)), (2, .ref (t.2.1 104)), (3, .int ((nI 10))), (4, .int ((nI k)))]) hx hb dX0_holding_41 rfl hl (by decide) rfl (fun ls hl => ?_)
          refine lv_iinc (v := (nI (k + 1))) (lv' := [(4, .int ((nI (k + 1)))), (1, .int ((q + 0))), (5, .int (r (72 + k))), (0, .ref (t.2.1 0)), (2, .ref (t.2.1 104)), (3, .int ((nI 10)))]) hx hb dX0_holding_42 hl (k := 5) rfl (nn_1 rfl) (by decide) rfl (fun ls hl => ?_)
          refine lv_goto (tgt := 16) hx hb dX0_holding_45 (by decide) ?_
          exact ih_16 ((k + 1)) _ ls (by omega) (by have h := he; simp only [lp] at h; rw [if_neg (fun z => (hV.sp (by omega)).mpr z c_32)] at h; exact h) (lv_sub hl [3, 1, 4, 5, 0] rfl)
  exact lp_16 10 0 _ ls (by omega) (rfl) (lv_sub hl [4, 3, 2, 1, 0] rfl)
section CC
variable {p : Program} {l : Launch} {e : Env} {R : Room} {s : State} {m : MethodId} {args : Array Value} {below : List Frame} {meth : Method} {c : Code} {H H0 : Heap} {locs : List Loc} {cells slots : Nat} {Q : State → Prop}
variable {cc : ByteArray} {pc nL : Nat} {ls : Array Slot} {rest : List Value} {t : CT} {r : Rw} {x : Nat → Rw}
theorem cc_holding (S : CallFix p m c cc nL s args lw_all RX0) (hK : cK t s) (hP : cX t r x H) (hR : kRm R 1 cells slots) (hsz : ls.size = nL) (b : Nat) (hV : pV b r) (hrest : (rest.map fun v => v.category).sum ≤ 8) (hdg : decode cc pc = .ok (.invokevirtual 403, 3)) (kk : W p l e R s m args below meth c H locs cells slots Q (F0 m (pc + 3) ls (.int (p_hold r) :: rest))) : W p l e R s m args below meth c H locs cells slots Q (F0 m pc ls (.ref (t.2.1 0) :: rest)) := by
  exact kk_Ri (W.runV (As := []) (rest := rest) S (k0_holding l t r x b hV) (cwV 0 S.2.2.2.2 (lw_V q1221 q1223 qs54 q101 q1224) rfl rfl rfl (by decide +kernel) ⟨hR.1, by have := hR.2.1; show 8 + (6 + 11) + 38 * 0 ≤ R.locals; omega⟩) ⟨c_blind, c_recv hK hP, c_pre hK hP⟩ rfl rfl hsz rfl (lv_room hrest) hdg ⟨hR.2.2.1, hR.2.2.2⟩) kk
end CC
set_option maxHeartbeats 4000000 in
set_option maxRecDepth 100000 in
theorem k0_count (l : Launch) (t : CT) (r : Rw) (x : Nat → Rw) (w : Int32) (b : Nat) (hV : pV b r) : Met l yX0_count (ws_ yX0_count cX0_count 2 (some .int)) (rmF 1) (va_Pc [.ref (t.2.1 0), .int w] (fun U => cK t U ∧ cX t r x U.heap)) (kW (some (.int ((o_count (x 9 1) r w).1))) (cX t ((o_count (x 9 1) r w).2.1) (fx x (o_count (x 9 1) r w).2.2)) (cA t)) 0 0 (cA t) := by
  refine kk_start (by decide) (Nat.le_of_ble_eq_true rfl) ?_
  intro p e s m below meth c S hr hlk hin hB ls hl
  obtain ⟨hK, hP⟩ := hB
  have hx := S.1
  have hb := S.2.1
  have hown : s.vm.findClass RX0 = some m.cls := S.2.2.2.1
  have hts := S.2.2.2.2
  have hS : va_S (cA t) s.heap s.heap [] := va_S.rf
  have hl : lv_has ls 2 [(0, .ref (t.2.1 0)), (1, .int (w))] := hl
  have hn := hV.n.1
  have hn8 := hV.n.2
  refine lv_iload_n hx hb dX0_count_0 rfl (lv_at hl 1 rfl) ?_
  by_cases c_1 : 0 ≤ w ∧ w < 8
  · skip
    obtain ⟨w_, hw_, rfl⟩ := nat_of_lt (n := 8) rfl (by omega) c_1
    have hcl_w_ := nI_clamp (n := w_) (by omega)
    rcases (show w_ = 0 ∨ w_ = 1 ∨ w_ = 2 ∨ w_ = 3 ∨ w_ = 4 ∨ w_ = 5 ∨ w_ = 6 ∨ w_ = 7 by omega) with k_1 | k_1 | k_1 | k_1 | k_1 | k_1 | k_1 | k_1
    · skip
      refine kb_tabIn (tgt := 48) S ((rfl).trans (congrArg nI k_1)) (by decide) dX0_count_1 (by decide) (by decide) rfl (by decide) ?_
      subst k_1
      refine lv_aload_n hx hb dX0_count_48 rfl (lv_at hl 0 rfl) ?_
      refine cg_d S hK hP dX0_count_49 ?_
      refine cd_day S hK hP dX0_count_52 ?_
      have ho : o_count (x 9 1) r (nI 0) = (r 1, r, none) := by first | (simp only [o_count, c_1, hcl_w_, reduceIte, and_self, oF, oK]; done) | (simp [o_count, oF, oK, fnd, c_1, hcl_w_]; done) | (unfold o_count oF oK; grind)
      exact kk_iretW S hr hlk hS (by rw [ho]; exact hP) (by rw [ho]) dX0_count_55
    · skip
      refine kb_tabIn (tgt := 56) S ((rfl).trans (congrArg nI k_1)) (by decide) dX0_count_1 (by decide) (by decide) rfl (by decide) ?_
      subst k_1
      refine lv_aload_n hx hb dX0_count_56 rfl (lv_at hl 0 rfl) ?_
      refine cg_d S hK hP dX0_count_57 ?_
      refine cd_casks S hK hP dX0_count_60 ?_
      have ho : o_count (x 9 1) r (nI 1) = (r 0, r, none) := by first | (simp only [o_count, c_1, hcl_w_, reduceIte, and_self, oF, oK]; done) | (simp [o_count, oF, oK, fnd, c_1, hcl_w_]; done) | (unfold o_count oF oK; grind)
      exact kk_iretW S hr hlk hS (by rw [ho]; exact hP) (by rw [ho]) dX0_count_63
    · skip
      refine kb_tabIn (tgt := 64) S ((rfl).trans (congrArg nI k_1)) (by decide) dX0_count_1 (by decide) (by decide) rfl (by decide) ?_
      subst k_1
      refine lv_aload_n hx hb dX0_count_64 rfl (lv_at hl 0 rfl) ?_
      refine cg_d S hK hP dX0_count_65 ?_
      refine lv_iconst (v := 2) hx hb dX0_count_68 (by decide) ?_
      refine d0_sumOf S hK hP (rm_ok (Nat.le_of_ble_eq_true rfl)) hl.1 (2) (b) hV (by omega) rfl (Nat.le_of_ble_eq_true rfl) dX0_count_69 ?_
      have ho : o_count (x 9 1) r (nI 2) = (p_sum r 2, r, none) := by first | (simp only [o_count, c_1, hcl_w_, reduceIte, and_self, oF, oK]; done) | (simp [o_count, oF, oK, fnd, c_1, hcl_w_]; done) | (unfold o_count oF oK; grind)
      exact kk_iretW S hr hlk hS (by rw [ho]; exact hP) (by rw [ho]) dX0_count_72
    · skip
      refine kb_tabIn (tgt := 73) S ((rfl).trans (congrArg nI k_1)) (by decide) dX0_count_1 (by decide) (by decide) rfl (by decide) ?_
      subst k_1
      refine lv_aload_n hx hb dX0_count_73 rfl (lv_at hl 0 rfl) ?_
      refine cg_d S hK hP dX0_count_74 ?_
      refine cd_claps S hK hP dX0_count_77 ?_
      have ho : o_count (x 9 1) r (nI 3) = (r 3, r, none) := by first | (simp only [o_count, c_1, hcl_w_, reduceIte, and_self, oF, oK]; done) | (simp [o_count, oF, oK, fnd, c_1, hcl_w_]; done) | (unfold o_count oF oK; grind)
      exact kk_iretW S hr hlk hS (by rw [ho]; exact hP) (by rw [ho]) dX0_count_80
    · skip
      refine kb_tabIn (tgt := 81) S ((rfl).trans (congrArg nI k_1)) (by decide) dX0_count_1 (by decide) (by decide) rfl (by decide) ?_
      subst k_1
      refine lv_aload_n hx hb dX0_count_81 rfl (lv_at hl 0 rfl) ?_
      refine cg_d S hK hP dX0_count_82 ?_
      refine lv_bipush (v := 6) hx hb dX0_count_85 (by decide) ?_
      refine d0_sumOf S hK hP (rm_ok (Nat.le_of_ble_eq_true rfl)) hl.1 (6) (b) hV (by omega) rfl (Nat.le_of_ble_eq_true rfl) dX0_count_87 ?_
      have ho : o_count (x 9 1) r (nI 4) = (p_sum r 6, r, none) := by first | (simp only [o_count, c_1, hcl_w_, reduceIte, and_self, oF, oK]; done) | (simp [o_count, oF, oK, fnd, c_1, hcl_w_]; done) | (unfold o_count oF oK; grind)
      exact kk_iretW S hr hlk hS (by rw [ho]; exact hP) (by rw [ho]) dX0_count_90
    · skip
      refine kb_tabIn (tgt := 91) S ((rfl).trans (congrArg nI k_1)) (by decide) dX0_count_1 (by decide) (by decide) rfl (by decide) ?_
      subst k_1
      refine lv_aload_n hx hb dX0_count_91 rfl (lv_at hl 0 rfl) ?_
      refine cg_taped S hK hP dX0_count_92 ?_
      have ho : o_count (x 9 1) r (nI 5) = (x 9 1, r, none) := by first | (simp only [o_count, c_1, hcl_w_, reduceIte, and_self, oF, oK]; done) | (simp [o_count, oF, oK, fnd, c_1, hcl_w_]; done) | (unfold o_count oF oK; grind)
      exact kk_iretW S hr hlk hS (by rw [ho]; exact hP) (by rw [ho]) dX0_count_95
    · skip
      refine kb_tabIn (tgt := 96) S ((rfl).trans (congrArg nI k_1)) (by decide) dX0_count_1 (by decide) (by decide) rfl (by decide) ?_
      subst k_1
      refine lv_aload_n hx hb dX0_count_96 rfl (lv_at hl 0 rfl) ?_
      refine cg_d S hK hP dX0_count_97 ?_
      refine cd_z S hK hP dX0_count_100 ?_
      have ho : o_count (x 9 1) r (nI 6) = (r 2, r, none) := by first | (simp only [o_count, c_1, hcl_w_, reduceIte, and_self, oF, oK]; done) | (simp [o_count, oF, oK, fnd, c_1, hcl_w_]; done) | (unfold o_count oF oK; grind)
      exact kk_iretW S hr hlk hS (by rw [ho]; exact hP) (by rw [ho]) dX0_count_103
    · skip
      refine kb_tabIn (tgt := 104) S ((rfl).trans (congrArg nI k_1)) (by decide) dX0_count_1 (by decide) (by decide) rfl (by decide) ?_
      subst k_1
      refine lv_aload_n hx hb dX0_count_104 rfl (lv_at hl 0 rfl) ?_
      refine cc_holding S hK hP (rm_ok (Nat.le_of_ble_eq_true rfl)) hl.1 (b) hV (Nat.le_of_ble_eq_true rfl) dX0_count_105 ?_
      have ho : o_count (x 9 1) r (nI 7) = (p_hold r, r, none) := by first | (simp only [o_count, c_1, hcl_w_, reduceIte, and_self, oF, oK]; done) | (simp [o_count, oF, oK, fnd, c_1, hcl_w_]; done) | (unfold o_count oF oK; grind)
      exact kk_iretW S hr hlk hS (by rw [ho]; exact hP) (by rw [ho]) dX0_count_108
  · skip
    refine kb_tabRaw (n := 8) (tgt := 109) S rfl (by decide) c_1 (by decide) dX0_count_1 (by decide) ?_
    refine lv_aload_n hx hb dX0_count_109 rfl (lv_at hl 0 rfl) ?_
    refine lv_iconst (v := 0) hx hb dX0_count_110 (by decide) ?_
    refine cc_finding S hK hP hS (rm_ok (Nat.le_of_ble_eq_true rfl)) hl.1 (0) (by omega) rfl (Nat.le_of_ble_eq_true rfl) dX0_count_111 (fun H locs hP hS => ?_)
    have ho : o_count (x 9 1) r w = (fnd 0, r, some 0) := by first | (simp only [o_count, c_1, reduceIte, and_self, oF, oK]; done) | (simp [o_count, oF, oK, fnd, c_1]; done) | (unfold o_count oF oK; grind)
    exact kk_iretW S hr hlk hS (by rw [ho]; exact hP) (by rw [ho]) dX0_count_114
set_option maxHeartbeats 4000000 in
set_option maxRecDepth 100000 in
theorem k0_status (l : Launch) (t : CT) (r : Rw) (x : Nat → Rw) (w : Int32) (hF : p_F (x 4)) : Met l yX0_status (ws_ yX0_status cX0_status 4 (some .int)) (rmF 1) (va_Pc [.ref (t.2.1 0), .int w] (fun U => cK t U ∧ cX t r x U.heap)) (kW (some (.int (if -1 ≤ w ∧ w ≤ 6 then x 4 (w + 1).toNatClampNeg else fnd 0))) (cX t (r) (if -1 ≤ w ∧ w ≤ 6 then x else va_up x 4 (p_fnd (x 4) 0))) (cA t)) 0 0 (cA t) := by
  refine kk_start (by decide) (Nat.le_of_ble_eq_true rfl) ?_
  intro p e s m below meth c S hr hlk hin hB ls hl
  obtain ⟨hK, hP⟩ := hB
  have hx := S.1
  have hb := S.2.1
  have hown : s.vm.findClass RX0 = some m.cls := S.2.2.2.1
  have hts := S.2.2.2.2
  have hS : va_S (cA t) s.heap s.heap [] := va_S.rf
  have hl : lv_has ls 4 [(0, .ref (t.2.1 0)), (1, .int (w))] := hl
  refine lv_iload_n hx hb dX0_status_0 rfl (lv_at hl 1 rfl) ?_
  refine lv_iconst (v := (-1)) hx hb dX0_status_1 (by decide) ?_
  refine lv_bipush (v := 6) hx hb dX0_status_2 (by decide) ?_
  refine cc_in S (rm_ok (Nat.le_of_ble_eq_true rfl)) hl.1 (Nat.le_of_ble_eq_true rfl) dX0_status_4 ?_
  refine kb_ifne (tgt := 16) S dX0_status_7 (by decide) (fun c_7 => ?_) (fun c_7 => ?_)
  · skip
    obtain ⟨j_, hj_, hje⟩ := st_ix c_7
    refine lv_iconst (v := 0) hx hb dX0_status_16 (by decide) ?_
    refine lv_istore_n (lv' := [(2, .int (0)), (0, .ref (t.2.1 0)), (1, .int (w))]) hx hb dX0_status_17 rfl hl (by decide) rfl (fun ls hl => ?_)
    refine lv_iconst (v := 0) hx hb dX0_status_18 (by decide) ?_
    refine lv_istore_n (lv' := [(3, .int (0)), (2, .int (0)), (0, .ref (t.2.1 0)), (1, .int (w))]) hx hb dX0_status_19 rfl hl (by decide) rfl (fun ls hl => ?_)
    have lp_20 : ∀ (j k : Nat) (q : Int32) (H : Heap) (locs : List Loc) (ls : Array Slot), k + j = 7 → (lp (fun k n => n + (if w = -1 ∨ w = nI k then x 4 (k + 1) else 0)) j k q = p_stt (x 4) w) → cX t (r) (x) H → va_S (cA t) s.heap H locs → lv_has ls 4 [(0, .ref (t.2.1 0)), (1, .int (w)), (2, .int (q)), (3, .int ((nI k)))] → W p l e (rmF 1) s m ([.ref (t.2.1 0), .int w] : List Value).toArray below meth c H locs 0 0 (MQ below (kW (some (.int (if -1 ≤ w ∧ w ≤ 6 then x 4 (w + 1).toNatClampNeg else fnd 0))) (cX t (r) (if -1 ≤ w ∧ w ≤ 6 then x else va_up x 4 (p_fnd (x 4) 0))) (cA t)) ([.ref (t.2.1 0), .int w] : List Value).toArray s 0 0 (cA t)) (F0 m 20 ls []) := by
      intro j
      induction j with
      | zero =>
        intro k q H locs ls hkj he hP hS hl
        refine lv_iload_n hx hb dX0_status_20 rfl (lv_at hl 3 rfl) ?_
        refine lv_aload_n hx hb dX0_status_21 rfl (lv_at hl 0 rfl) ?_
        refine cg_findings S hK hP dX0_status_22 ?_
        refine ck_lenF S hK hP dX0_status_25 ?_
        refine kb_ge_n (tgt := 58) (a := k) (b := 7) S rfl rfl (by omega) (by omega) dX0_status_26 (by decide) (fun c_26 => ?_) (fun c_26 => ?_)
        · skip
          refine lv_iload_n hx hb dX0_status_58 rfl (lv_at hl 2 rfl) ?_
          exact kk_iretW S hr hlk hS (by rw [if_pos c_7]; exact hP) (by rw [if_pos c_7, hje, nI_clamp (by omega), ← p_stt_ok hF hj_ hje, ← he]; rfl) dX0_status_59
        · exact absurd c_26 (by omega)
      | succ j ih =>
        intro k q H locs ls hkj he hP hS hl
        have ih_20 := ih
        refine lv_iload_n hx hb dX0_status_20 rfl (lv_at hl 3 rfl) ?_
        refine lv_aload_n hx hb dX0_status_21 rfl (lv_at hl 0 rfl) ?_
        refine cg_findings S hK hP dX0_status_22 ?_
        refine ck_lenF S hK hP dX0_status_25 ?_
        refine kb_ge_n (tgt := 58) (a := k) (b := 7) S rfl rfl (by omega) (by omega) dX0_status_26 (by decide) (fun c_26 => ?_) (fun c_26 => ?_)
        · exact absurd c_26 (by omega)
        · skip
          refine lv_iload_n hx hb dX0_status_29 rfl (lv_at hl 2 rfl) ?_
          refine lv_iload_n hx hb dX0_status_30 rfl (lv_at hl 1 rfl) ?_
          refine lv_iconst (v := (-1)) hx hb dX0_status_31 (by decide) ?_
          refine lv_icmp_eq (tgt := 40) hx hb dX0_status_32 (by decide) (fun c_32 => ?_) (fun c_32 => ?_)
          · skip
            refine lv_aload_n hx hb dX0_status_40 rfl (lv_at hl 0 rfl) ?_
            refine cg_findings S hK hP dX0_status_41 ?_
            refine lv_iload_n hx hb dX0_status_44 rfl (lv_at hl 3 rfl) ?_
            refine ck_ldF S hK hP (k) (by omega) rfl dX0_status_45 ?_
            refine lv_goto (tgt := 50) hx hb dX0_status_46 (by decide) ?_
            refine lv_iadd hx hb dX0_status_50 ?_
            refine lv_istore_n (lv' := [(2, .int ((q + x 4 (k + 1)))), (0, .ref (t.2.1 0)), (1, .int (w)), (3, .int ((nI k)))]) hx hb dX0_status_51 rfl hl (by decide) rfl (fun ls hl => ?_)
            refine lv_iinc (v := (nI (k + 1))) (lv' := [(3, .int ((nI (k + 1)))), (2, .int ((q + x 4 (k + 1)))), (0, .ref (t.2.1 0)), (1, .int (w))]) hx hb dX0_status_52 hl (k := 3) rfl (nn_1 rfl) (by decide) rfl (fun ls hl => ?_)
            refine lv_goto (tgt := 20) hx hb dX0_status_55 (by decide) ?_
            exact ih_20 ((k + 1)) _ _ _ ls (by omega) (by have h := he; simp only [lp] at h; rw [if_pos (Or.inl c_32)] at h; exact h) hP hS (lv_sub hl [2, 3, 1, 0] rfl)
          · skip
            refine lv_iload_n hx hb dX0_status_35 rfl (lv_at hl 1 rfl) ?_
            refine lv_iload_n hx hb dX0_status_36 rfl (lv_at hl 3 rfl) ?_
            refine lv_icmp_ne (tgt := 49) hx hb dX0_status_37 (by decide) (fun c_37 => ?_) (fun c_37 => ?_)
            · skip
              refine lv_iconst (v := 0) hx hb dX0_status_49 (by decide) ?_
              refine lv_iadd hx hb dX0_status_50 ?_
              refine lv_istore_n (lv' := [(2, .int ((q + 0))), (0, .ref (t.2.1 0)), (1, .int (w)), (3, .int ((nI k)))]) hx hb dX0_status_51 rfl hl (by decide) rfl (fun ls hl => ?_)
              refine lv_iinc (v := (nI (k + 1))) (lv' := [(3, .int ((nI (k + 1)))), (2, .int ((q + 0))), (0, .ref (t.2.1 0)), (1, .int (w))]) hx hb dX0_status_52 hl (k := 3) rfl (nn_1 rfl) (by decide) rfl (fun ls hl => ?_)
              refine lv_goto (tgt := 20) hx hb dX0_status_55 (by decide) ?_
              exact ih_20 ((k + 1)) _ _ _ ls (by omega) (by have h := he; simp only [lp] at h; rw [if_neg (fun z => z.elim c_32 c_37)] at h; exact h) hP hS (lv_sub hl [2, 3, 1, 0] rfl)
            · skip
              refine lv_aload_n hx hb dX0_status_40 rfl (lv_at hl 0 rfl) ?_
              refine cg_findings S hK hP dX0_status_41 ?_
              refine lv_iload_n hx hb dX0_status_44 rfl (lv_at hl 3 rfl) ?_
              refine ck_ldF S hK hP (k) (by omega) rfl dX0_status_45 ?_
              refine lv_goto (tgt := 50) hx hb dX0_status_46 (by decide) ?_
              refine lv_iadd hx hb dX0_status_50 ?_
              refine lv_istore_n (lv' := [(2, .int ((q + x 4 (k + 1)))), (0, .ref (t.2.1 0)), (1, .int (w)), (3, .int ((nI k)))]) hx hb dX0_status_51 rfl hl (by decide) rfl (fun ls hl => ?_)
              refine lv_iinc (v := (nI (k + 1))) (lv' := [(3, .int ((nI (k + 1)))), (2, .int ((q + x 4 (k + 1)))), (0, .ref (t.2.1 0)), (1, .int (w))]) hx hb dX0_status_52 hl (k := 3) rfl (nn_1 rfl) (by decide) rfl (fun ls hl => ?_)
              refine lv_goto (tgt := 20) hx hb dX0_status_55 (by decide) ?_
              exact ih_20 ((k + 1)) _ _ _ ls (by omega) (by have h := he; simp only [lp] at h; rw [if_pos (Or.inr c_37)] at h; exact h) hP hS (lv_sub hl [2, 3, 1, 0] rfl)
    exact lp_20 7 0 _ _ _ ls (by omega) (rfl) hP hS (lv_sub hl [2, 3, 1, 0] rfl)
  · skip
    refine lv_aload_n hx hb dX0_status_10 rfl (lv_at hl 0 rfl) ?_
    refine lv_iconst (v := 0) hx hb dX0_status_11 (by decide) ?_
    refine cc_finding S hK hP hS (rm_ok (Nat.le_of_ble_eq_true rfl)) hl.1 (0) (by omega) rfl (Nat.le_of_ble_eq_true rfl) dX0_status_12 (fun H locs hP hS => ?_)
    exact kk_iretW S hr hlk hS (by rw [if_neg c_7]; exact hP) (by rw [if_neg c_7]) dX0_status_15
set_option maxHeartbeats 4000000 in
set_option maxRecDepth 100000 in
theorem k0_divisor (l : Launch) (a : Nat) (y : Nat) (ha : a ≤ 6) (hy : y ≤ 6) : Met l yX0_divisor (ws_ yX0_divisor cX0_divisor 5 (some .int)) (rmF 0) (va_Pc [.int (nI a), .int (nI y)] (fun _ => True)) (kR (some (.int (nI (Nat.gcd a y))))) 0 0 (fun _ => False) := by
  refine kk_start (by decide) (Nat.le_of_ble_eq_true rfl) ?_
  intro p e s m below meth c S hr hlk hin hB ls hl
  have hx := S.1
  have hb := S.2.1
  have hown : s.vm.findClass RX0 = some m.cls := S.2.2.2.1
  have hts := S.2.2.2.2
  have hl : lv_has ls 5 [(0, .int ((nI a))), (1, .int ((nI y)))] := hl
  refine lv_iload_n hx hb dX0_divisor_0 rfl (lv_at hl 0 rfl) ?_
  refine lv_istore_n (lv' := [(2, .int ((nI a))), (0, .int ((nI a))), (1, .int ((nI y)))]) hx hb dX0_divisor_1 rfl hl (by decide) rfl (fun ls hl => ?_)
  refine lv_iload_n hx hb dX0_divisor_2 rfl (lv_at hl 2 rfl) ?_
  refine lv_istore_n (lv' := [(3, .int ((nI y))), (2, .int ((nI a))), (0, .int ((nI a))), (1, .int ((nI y)))]) hx hb dX0_divisor_3 rfl hl (by decide) rfl (fun ls hl => ?_)
  have lp_4 : ∀ (j : Nat) (a0 : Nat) (b0 : Nat) (ls : Array Slot), (b0 ≤ j) → (Nat.gcd a0 b0 = Nat.gcd a y) → (a0 ≤ 6) → (b0 ≤ 6) → lv_has ls 5 [(0, .int ((nI a))), (1, .int ((nI y))), (2, .int ((nI a0))), (3, .int ((nI b0)))] → W p l e (rmF 0) s m ([.int (nI a), .int (nI y)] : List Value).toArray below meth c s.heap [] 0 0 (MQ below (kR (some (.int (nI (Nat.gcd a y))))) ([.int (nI a), .int (nI y)] : List Value).toArray s 0 0 (fun _ => False)) (F0 m 4 ls []) := by
    intro j
    induction j with
    | zero =>
      intro a0 b0 ls hkj hg ha0 hb0 hl
      refine lv_iload_n hx hb dX0_divisor_4 rfl (lv_at hl 3 rfl) ?_
      refine kb_eq0_n (tgt := 21) (a := b0) S rfl (by omega) dX0_divisor_5 (by decide) (fun c_5 => ?_) (fun c_5 => ?_)
      · skip
        refine lv_iload_n hx hb dX0_divisor_21 rfl (lv_at hl 2 rfl) ?_
        exact kk_iretR S hr hlk rfl rfl (by rw [← hg, c_5, Nat.gcd_zero_right]) dX0_divisor_22
      · exact absurd c_5 (by omega)
    | succ j ih =>
      intro a0 b0 ls hkj hg ha0 hb0 hl
      have ih_4 := ih
      refine lv_iload_n hx hb dX0_divisor_4 rfl (lv_at hl 3 rfl) ?_
      refine kb_eq0_n (tgt := 21) (a := b0) S rfl (by omega) dX0_divisor_5 (by decide) (fun c_5 => ?_) (fun c_5 => ?_)
      · skip
        refine lv_iload_n hx hb dX0_divisor_21 rfl (lv_at hl 2 rfl) ?_
        exact kk_iretR S hr hlk rfl rfl (by rw [← hg, c_5, Nat.gcd_zero_right]) dX0_divisor_22
      · skip
        refine lv_iload_n hx hb dX0_divisor_8 rfl (lv_at hl 2 rfl) ?_
        refine lv_iload_n hx hb dX0_divisor_9 rfl (lv_at hl 3 rfl) ?_
        refine lv_irem hx hb dX0_divisor_10 (nI_ne0 (by omega) (by omega)) ?_
        refine kb_nat (y := nI ((a0 % b0))) (pk_rem (by omega) (by omega) (by omega)) ?_
        refine lv_istore (lv' := [(4, .int ((nI (a0 % b0)))), (0, .int ((nI a))), (1, .int ((nI y))), (2, .int ((nI a0))), (3, .int ((nI b0)))]) hx hb dX0_divisor_11 hl (by decide) rfl (fun ls hl => ?_)
        refine lv_iload_n hx hb dX0_divisor_13 rfl (lv_at hl 4 rfl) ?_
        refine lv_istore_n (lv' := [(2, .int ((nI b0))), (4, .int ((nI (a0 % b0)))), (0, .int ((nI a))), (1, .int ((nI y))), (3, .int ((nI b0)))]) hx hb dX0_divisor_14 rfl hl (by decide) rfl (fun ls hl => ?_)
        refine lv_iload hx hb dX0_divisor_15 (lv_at hl 1 rfl) ?_
        refine lv_istore_n (lv' := [(3, .int ((nI (a0 % b0)))), (2, .int ((nI b0))), (4, .int ((nI (a0 % b0)))), (0, .int ((nI a))), (1, .int ((nI y)))]) hx hb dX0_divisor_17 rfl hl (by decide) rfl (fun ls hl => ?_)
        refine lv_goto (tgt := 4) hx hb dX0_divisor_18 (by decide) ?_
        exact ih_4  (b0) ((a0 % b0)) ls (by have := Nat.mod_lt a0 (show 0 < b0 by omega); omega) (by rw [← hg, Nat.gcd_comm b0, ← Nat.gcd_rec, Nat.gcd_comm]) (hb0) (by have := Nat.mod_lt a0 (show 0 < b0 by omega); omega) (lv_sub hl [3, 4, 1, 0] rfl)
  exact lp_4 y (a) (y) ls (Nat.le_refl _) (rfl) (ha) (hy) (lv_sub hl [2, 3, 1, 0] rfl)
section CC
variable {p : Program} {l : Launch} {e : Env} {R : Room} {s : State} {m : MethodId} {args : Array Value} {below : List Frame} {meth : Method} {c : Code} {H H0 : Heap} {locs : List Loc} {cells slots : Nat} {Q : State → Prop}
variable {cc : ByteArray} {pc nL : Nat} {ls : Array Slot} {rest : List Value} {t : CT} {r : Rw} {x : Nat → Rw}
theorem cc_divisor (S : CallFix p m c cc nL s args lw_all RX0) (hR : kRm R 1 cells slots) (hsz : ls.size = nL) (a : Nat) (y : Nat) (ha : a ≤ 6) (hy : y ≤ 6) {i0 : Int32} (e0 : i0 = nI a) {i1 : Int32} (e1 : i1 = nI y) (hrest : (rest.map fun v => v.category).sum ≤ 8) (hdg : decode cc pc = .ok (.invokestatic 329, 3)) (kk : W p l e R s m args below meth c H locs cells slots Q (F0 m (pc + 3) ls (.int (nI (Nat.gcd a y)) :: rest))) : W p l e R s m args below meth c H locs cells slots Q (F0 m pc ls (.int i1 :: .int i0 :: rest)) := by
  subst e0
  subst e1
  exact kk_Ri (W.runS (As := [.int (nI a), .int (nI y)]) (rest := rest) S (k0_divisor l a y ha hy) (va_cwS 2 S.2.2.2.2 (lw_S q1002 q1003 q101 q1004) rfl rfl rfl (by decide +kernel) ⟨hR.1, by have := hR.2.1; show 8 + (5 + 11) + 38 * 0 ≤ R.locals; omega⟩) ⟨kk_blindT, fun U hU hW => ⟨rfl, trivial⟩⟩ rfl rfl hsz rfl (lv_room hrest) hdg ⟨hR.2.2.1, hR.2.2.2⟩) kk
end CC
set_option maxHeartbeats 4000000 in
set_option maxRecDepth 100000 in
theorem k0_odds (l : Launch) (t : CT) (r : Rw) (x : Nat → Rw) (n : Int32) (w : Int32) (b : Nat) (hV : pV b r) : Met l yX0_odds (ws_ yX0_odds cX0_odds 9 (some .long)) (rmF 2) (va_Pc [.ref (t.2.1 0), .int n, .int w] (fun U => cK t U ∧ cX t r x U.heap)) (kW (some (.long ((o_odds r n w).1))) (cX t (r) (fx x (o_odds r n w).2)) (cA t)) 0 0 (cA t) := by
  refine kk_start (by decide) (Nat.le_of_ble_eq_true rfl) ?_
  intro p e s m below meth c S hr hlk hin hB ls hl
  obtain ⟨hK, hP⟩ := hB
  have hx := S.1
  have hb := S.2.1
  have hown : s.vm.findClass RX0 = some m.cls := S.2.2.2.1
  have hts := S.2.2.2.2
  have hS : va_S (cA t) s.heap s.heap [] := va_S.rf
  have hl : lv_has ls 9 [(0, .ref (t.2.1 0)), (1, .int (n)), (2, .int (w))] := hl
  have hn := hV.n.1
  have hn8 := hV.n.2
  have hu64 := p_used_lt hV
  have hm6 := many6 (p_used r) (p_used_lt hV)
  have hfr : p_free r ≤ 6 := by unfold p_free; omega
  have hgd := odds_d (p_free r) hfr
  have hg0 := hgd.1
  have hg6 := hgd.2.1
  refine lv_iload_n hx hb dX0_odds_0 rfl (lv_at hl 1 rfl) ?_
  refine lv_iconst (v := 0) hx hb dX0_odds_1 (by decide) ?_
  refine lv_bipush (v := 23) hx hb dX0_odds_2 (by decide) ?_
  refine cc_in S (rm_ok (Nat.le_of_ble_eq_true rfl)) hl.1 (Nat.le_of_ble_eq_true rfl) dX0_odds_4 ?_
  refine kb_ifeq (tgt := 19) S dX0_odds_7 (by decide) (fun c_7 => ?_) (fun c_7 => ?_)
  · skip
    refine lv_aload_n hx hb dX0_odds_19 rfl (lv_at hl 0 rfl) ?_
    refine lv_iconst (v := 0) hx hb dX0_odds_20 (by decide) ?_
    refine cc_finding S hK hP hS (rm_ok (Nat.le_of_ble_eq_true rfl)) hl.1 (0) (by omega) rfl (Nat.le_of_ble_eq_true rfl) dX0_odds_21 (fun H locs hP hS => ?_)
    refine lv_i2l hx hb dX0_odds_24 rfl ?_
    exact kk_lretW S hr hlk hS (by simp only [o_odds, c_7, reduceIte, and_self, fx]; exact hP) (by simp only [o_odds, c_7, reduceIte, and_self]) dX0_odds_25
  · skip
    obtain ⟨n_, hn_, rfl⟩ := nat_of_le (n := 23) (rfl) (by omega) c_7
    have hcl_n_ := nI_clamp (n := n_) (by omega)
    refine lv_iload_n hx hb dX0_odds_10 rfl (lv_at hl 2 rfl) ?_
    refine lv_iconst (v := 0) hx hb dX0_odds_11 (by decide) ?_
    refine lv_iconst (v := 1) hx hb dX0_odds_12 (by decide) ?_
    refine cc_in S (rm_ok (Nat.le_of_ble_eq_true rfl)) hl.1 (Nat.le_of_ble_eq_true rfl) dX0_odds_13 ?_
    refine kb_ifne (tgt := 26) S dX0_odds_16 (by decide) (fun c_16 => ?_) (fun c_16 => ?_)
    · skip
      refine lv_bipush (v := 6) hx hb dX0_odds_26 (by decide) ?_
      refine lv_aload_n hx hb dX0_odds_28 rfl (lv_at hl 0 rfl) ?_
      refine cg_d S hK hP dX0_odds_29 ?_
      refine d0_cellars S hK hP (rm_ok (Nat.le_of_ble_eq_true rfl)) hl.1 (b) hV (Nat.le_of_ble_eq_true rfl) dX0_odds_32 ?_
      refine cc_ones S (rm_ok (Nat.le_of_ble_eq_true rfl)) hl.1 ((p_used r)) (by omega) rfl (Nat.le_of_ble_eq_true rfl) dX0_odds_35 ?_
      refine lv_isub hx hb dX0_odds_38 ?_
      refine kb_nat (y := nI (p_free r)) (nn_sub rfl rfl hm6) ?_
      refine lv_istore_n (lv' := [(3, .int ((nI (p_free r)))), (0, .ref (t.2.1 0)), (1, .int ((nI n_))), (2, .int (w))]) hx hb dX0_odds_39 rfl hl (by decide) rfl (fun ls hl => ?_)
      refine lv_iload_n hx hb dX0_odds_40 rfl (lv_at hl 0 rfl) ?_
      refine lv_bipush (v := 6) hx hb dX0_odds_41 (by decide) ?_
      refine cc_divisor S (rm_ok (Nat.le_of_ble_eq_true rfl)) hl.1 ((p_free r)) (6) (by omega) (by omega) rfl rfl (Nat.le_of_ble_eq_true rfl) dX0_odds_43 ?_
      refine kb_nat (y := nI ((Nat.gcd (p_free r) 6))) rfl ?_
      refine lv_istore (lv' := [(4, .int ((nI (Nat.gcd (p_free r) 6)))), (3, .int ((nI (p_free r)))), (0, .ref (t.2.1 0)), (1, .int ((nI n_))), (2, .int (w))]) hx hb dX0_odds_46 hl (by decide) rfl (fun ls hl => ?_)
      refine lv_iload_n hx hb dX0_odds_48 rfl (lv_at hl 4 rfl) ?_
      refine lv_if_ne (tgt := 56) hx hb dX0_odds_49 (by decide) (fun c_49 => ?_) (fun c_49 => ?_)
      · skip
        refine lv_bipush (v := 6) hx hb dX0_odds_56 (by decide) ?_
        refine lv_iload hx hb dX0_odds_58 (lv_at hl 0 rfl) ?_
        refine lv_idiv hx hb dX0_odds_60 (nI_ne0 (by omega) (by omega)) ?_
        refine kb_nat (y := nI (6 / (Nat.gcd (p_free r) 6))) (pk_div (a := 6) (d := (Nat.gcd (p_free r) 6)) (by omega) (by omega) (by omega)) ?_
        have h16 : (6 / (Nat.gcd (p_free r) 6)) ≤ 6 := hgd.2.2.2
        refine lv_istore (lv' := [(5, .int ((nI (6 / (Nat.gcd (p_free r) 6))))), (4, .int ((nI (Nat.gcd (p_free r) 6)))), (3, .int ((nI (p_free r)))), (0, .ref (t.2.1 0)), (1, .int ((nI n_))), (2, .int (w))]) hx hb dX0_odds_61 hl (by decide) rfl (fun ls hl => ?_)
        refine lv_lconst (v := (1 : Int32).toInt64) hx hb dX0_odds_63 (by decide) ?_
        refine lv_lstore (lv' := [(6, .long ((1 : Int32).toInt64)), (5, .int ((nI (6 / (Nat.gcd (p_free r) 6))))), (4, .int ((nI (Nat.gcd (p_free r) 6)))), (3, .int ((nI (p_free r)))), (0, .ref (t.2.1 0)), (1, .int ((nI n_))), (2, .int (w))]) hx hb dX0_odds_64 hl (by decide) rfl (fun ls hl => ?_)
        refine lv_iconst (v := 0) hx hb dX0_odds_66 (by decide) ?_
        refine lv_istore (lv' := [(8, .int (0)), (6, .long ((1 : Int32).toInt64)), (5, .int ((nI (6 / (Nat.gcd (p_free r) 6))))), (4, .int ((nI (Nat.gcd (p_free r) 6)))), (3, .int ((nI (p_free r)))), (0, .ref (t.2.1 0)), (1, .int ((nI n_))), (2, .int (w))]) hx hb dX0_odds_67 hl (by decide) rfl (fun ls hl => ?_)
        have lp_69 : ∀ (j k : Nat) (A : Nat) (H : Heap) (locs : List Loc) (ls : Array Slot), k + j = n_ → (A = (6 / (Nat.gcd (p_free r) 6)) ^ k) → cX t (r) (x) H → va_S (cA t) s.heap H locs → lv_has ls 9 [(0, .ref (t.2.1 0)), (1, .int ((nI n_))), (2, .int (w)), (5, .int ((nI (6 / (Nat.gcd (p_free r) 6))))), (6, .long ((lN A))), (8, .int ((nI k)))] → W p l e (rmF 2) s m ([.ref (t.2.1 0), .int (nI n_), .int w] : List Value).toArray below meth c H locs 0 0 (MQ below (kW (some (.long ((o_odds r (nI n_) w).1))) (cX t (r) (fx x (o_odds r (nI n_) w).2)) (cA t)) ([.ref (t.2.1 0), .int (nI n_), .int w] : List Value).toArray s 0 0 (cA t)) (F0 m 69 ls []) := by
          intro j
          induction j with
          | zero =>
            intro k A H locs ls hkj hA hP hS hl
            refine lv_iload hx hb dX0_odds_69 (lv_at hl 5 rfl) ?_
            refine lv_iload_n hx hb dX0_odds_71 rfl (lv_at hl 1 rfl) ?_
            refine kb_ge_n (tgt := 89) (a := k) (b := n_) S rfl rfl (by omega) (by omega) dX0_odds_72 (by decide) (fun c_72 => ?_) (fun c_72 => ?_)
            · skip
              refine lv_lload hx hb dX0_odds_89 (lv_at hl 4 rfl) ?_
              exact kk_lretW S hr hlk hS (by simp only [o_odds, c_7, c_16, hcl_n_, reduceIte, and_self]; rw [if_neg c_49]; exact hP) (by simp only [o_odds, c_7, c_16, hcl_n_, reduceIte, and_self]; rw [if_neg c_49]; show lN A = lN _; rw [hA, show k = n_ by omega]; exact congrArg lN (odds_ok _ hfr _ (by omega)).2) dX0_odds_91
            · exact absurd c_72 (by omega)
          | succ j ih =>
            intro k A H locs ls hkj hA hP hS hl
            have ih_69 := ih
            refine lv_iload hx hb dX0_odds_69 (lv_at hl 5 rfl) ?_
            refine lv_iload_n hx hb dX0_odds_71 rfl (lv_at hl 1 rfl) ?_
            refine kb_ge_n (tgt := 89) (a := k) (b := n_) S rfl rfl (by omega) (by omega) dX0_odds_72 (by decide) (fun c_72 => ?_) (fun c_72 => ?_)
            · exact absurd c_72 (by omega)
            · skip
              refine lv_lload hx hb dX0_odds_75 (lv_at hl 4 rfl) ?_
              refine lv_iload hx hb dX0_odds_77 (lv_at hl 3 rfl) ?_
              refine lv_i2l hx hb dX0_odds_79 rfl ?_
              refine lv_lmul hx hb dX0_odds_80 ?_
              refine kb_natl (y := lN (A * (6 / (Nat.gcd (p_free r) 6)))) (by rw [nI_l (by omega)]; exact lN_mul _ _) ?_
              refine lv_lstore (lv' := [(6, .long ((lN (A * (6 / (Nat.gcd (p_free r) 6)))))), (0, .ref (t.2.1 0)), (1, .int ((nI n_))), (2, .int (w)), (5, .int ((nI (6 / (Nat.gcd (p_free r) 6))))), (8, .int ((nI k)))]) hx hb dX0_odds_81 hl (by decide) rfl (fun ls hl => ?_)
              refine lv_iinc (v := (nI (k + 1))) (lv' := [(8, .int ((nI (k + 1)))), (6, .long ((lN (A * (6 / (Nat.gcd (p_free r) 6)))))), (0, .ref (t.2.1 0)), (1, .int ((nI n_))), (2, .int (w)), (5, .int ((nI (6 / (Nat.gcd (p_free r) 6)))))]) hx hb dX0_odds_83 hl (k := 5) rfl (nn_1 rfl) (by decide) rfl (fun ls hl => ?_)
              refine lv_goto (tgt := 69) hx hb dX0_odds_86 (by decide) ?_
              exact ih_69 ((k + 1)) (A * (6 / (Nat.gcd (p_free r) 6))) _ _ ls (by omega) (by rw [hA, Nat.pow_succ]) hP hS (lv_sub hl [2, 3, 4, 5, 1, 0] rfl)
        exact lp_69 n_ 0 1 _ _ ls (by omega) (by rfl) hP hS (lv_sub hl [5, 6, 7, 2, 1, 0] rfl)
      · skip
        refine lv_iload_n hx hb dX0_odds_52 rfl (lv_at hl 1 rfl) ?_
        refine lv_goto (tgt := 58) hx hb dX0_odds_53 (by decide) ?_
        refine lv_iload hx hb dX0_odds_58 (lv_at hl 0 rfl) ?_
        refine lv_idiv hx hb dX0_odds_60 (nI_ne0 (by omega) (by omega)) ?_
        refine kb_nat (y := nI (p_free r / (Nat.gcd (p_free r) 6))) (pk_div (a := p_free r) (d := (Nat.gcd (p_free r) 6)) (by omega) (by omega) (by omega)) ?_
        have h16 : (p_free r / (Nat.gcd (p_free r) 6)) ≤ 6 := hgd.2.2.1
        refine lv_istore (lv' := [(5, .int ((nI (p_free r / (Nat.gcd (p_free r) 6))))), (4, .int ((nI (Nat.gcd (p_free r) 6)))), (3, .int ((nI (p_free r)))), (0, .ref (t.2.1 0)), (1, .int ((nI n_))), (2, .int (w))]) hx hb dX0_odds_61 hl (by decide) rfl (fun ls hl => ?_)
        refine lv_lconst (v := (1 : Int32).toInt64) hx hb dX0_odds_63 (by decide) ?_
        refine lv_lstore (lv' := [(6, .long ((1 : Int32).toInt64)), (5, .int ((nI (p_free r / (Nat.gcd (p_free r) 6))))), (4, .int ((nI (Nat.gcd (p_free r) 6)))), (3, .int ((nI (p_free r)))), (0, .ref (t.2.1 0)), (1, .int ((nI n_))), (2, .int (w))]) hx hb dX0_odds_64 hl (by decide) rfl (fun ls hl => ?_)
        refine lv_iconst (v := 0) hx hb dX0_odds_66 (by decide) ?_
        refine lv_istore (lv' := [(8, .int (0)), (6, .long ((1 : Int32).toInt64)), (5, .int ((nI (p_free r / (Nat.gcd (p_free r) 6))))), (4, .int ((nI (Nat.gcd (p_free r) 6)))), (3, .int ((nI (p_free r)))), (0, .ref (t.2.1 0)), (1, .int ((nI n_))), (2, .int (w))]) hx hb dX0_odds_67 hl (by decide) rfl (fun ls hl => ?_)
        have lp_69 : ∀ (j k : Nat) (A : Nat) (H : Heap) (locs : List Loc) (ls : Array Slot), k + j = n_ → (A = (p_free r / (Nat.gcd (p_free r) 6)) ^ k) → cX t (r) (x) H → va_S (cA t) s.heap H locs → lv_has ls 9 [(0, .ref (t.2.1 0)), (1, .int ((nI n_))), (2, .int (w)), (5, .int ((nI (p_free r / (Nat.gcd (p_free r) 6))))), (6, .long ((lN A))), (8, .int ((nI k)))] → W p l e (rmF 2) s m ([.ref (t.2.1 0), .int (nI n_), .int w] : List Value).toArray below meth c H locs 0 0 (MQ below (kW (some (.long ((o_odds r (nI n_) w).1))) (cX t (r) (fx x (o_odds r (nI n_) w).2)) (cA t)) ([.ref (t.2.1 0), .int (nI n_), .int w] : List Value).toArray s 0 0 (cA t)) (F0 m 69 ls []) := by
          intro j
          induction j with
          | zero =>
            intro k A H locs ls hkj hA hP hS hl
            refine lv_iload hx hb dX0_odds_69 (lv_at hl 5 rfl) ?_
            refine lv_iload_n hx hb dX0_odds_71 rfl (lv_at hl 1 rfl) ?_
            refine kb_ge_n (tgt := 89) (a := k) (b := n_) S rfl rfl (by omega) (by omega) dX0_odds_72 (by decide) (fun c_72 => ?_) (fun c_72 => ?_)
            · skip
              refine lv_lload hx hb dX0_odds_89 (lv_at hl 4 rfl) ?_
              exact kk_lretW S hr hlk hS (by simp only [o_odds, c_7, c_16, hcl_n_, reduceIte, and_self]; rw [if_pos c_49]; exact hP) (by simp only [o_odds, c_7, c_16, hcl_n_, reduceIte, and_self]; rw [if_pos c_49]; show lN A = lN _; rw [hA, show k = n_ by omega]; exact congrArg lN (odds_ok _ hfr _ (by omega)).1) dX0_odds_91
            · exact absurd c_72 (by omega)
          | succ j ih =>
            intro k A H locs ls hkj hA hP hS hl
            have ih_69 := ih
            refine lv_iload hx hb dX0_odds_69 (lv_at hl 5 rfl) ?_
            refine lv_iload_n hx hb dX0_odds_71 rfl (lv_at hl 1 rfl) ?_
            refine kb_ge_n (tgt := 89) (a := k) (b := n_) S rfl rfl (by omega) (by omega) dX0_odds_72 (by decide) (fun c_72 => ?_) (fun c_72 => ?_)
            · exact absurd c_72 (by omega)
            · skip
              refine lv_lload hx hb dX0_odds_75 (lv_at hl 4 rfl) ?_
              refine lv_iload hx hb dX0_odds_77 (lv_at hl 3 rfl) ?_
              refine lv_i2l hx hb dX0_odds_79 rfl ?_
              refine lv_lmul hx hb dX0_odds_80 ?_
              refine kb_natl (y := lN (A * (p_free r / (Nat.gcd (p_free r) 6)))) (by rw [nI_l (by omega)]; exact lN_mul _ _) ?_
              refine lv_lstore (lv' := [(6, .long ((lN (A * (p_free r / (Nat.gcd (p_free r) 6)))))), (0, .ref (t.2.1 0)), (1, .int ((nI n_))), (2, .int (w)), (5, .int ((nI (p_free r / (Nat.gcd (p_free r) 6))))), (8, .int ((nI k)))]) hx hb dX0_odds_81 hl (by decide) rfl (fun ls hl => ?_)
              refine lv_iinc (v := (nI (k + 1))) (lv' := [(8, .int ((nI (k + 1)))), (6, .long ((lN (A * (p_free r / (Nat.gcd (p_free r) 6)))))), (0, .ref (t.2.1 0)), (1, .int ((nI n_))), (2, .int (w)), (5, .int ((nI (p_free r / (Nat.gcd (p_free r) 6)))))]) hx hb dX0_odds_83 hl (k := 5) rfl (nn_1 rfl) (by decide) rfl (fun ls hl => ?_)
              refine lv_goto (tgt := 69) hx hb dX0_odds_86 (by decide) ?_
              exact ih_69 ((k + 1)) (A * (p_free r / (Nat.gcd (p_free r) 6))) _ _ ls (by omega) (by rw [hA, Nat.pow_succ]) hP hS (lv_sub hl [2, 3, 4, 5, 1, 0] rfl)
        exact lp_69 n_ 0 1 _ _ ls (by omega) (by rfl) hP hS (lv_sub hl [5, 6, 7, 2, 1, 0] rfl)
    · skip
      refine lv_aload_n hx hb dX0_odds_19 rfl (lv_at hl 0 rfl) ?_
      refine lv_iconst (v := 0) hx hb dX0_odds_20 (by decide) ?_
      refine cc_finding S hK hP hS (rm_ok (Nat.le_of_ble_eq_true rfl)) hl.1 (0) (by omega) rfl (Nat.le_of_ble_eq_true rfl) dX0_odds_21 (fun H locs hP hS => ?_)
      refine lv_i2l hx hb dX0_odds_24 rfl ?_
      exact kk_lretW S hr hlk hS (by simp only [o_odds, c_7, c_16, reduceIte, and_self, fx]; exact hP) (by simp only [o_odds, c_7, c_16, reduceIte, and_self]) dX0_odds_25
set_option maxHeartbeats 4000000 in
set_option maxRecDepth 100000 in
theorem k0_feed (l : Launch) (t : CT) (r : Rw) (x : Nat → Rw) (v : Int32) (n : Int32) (tp : Nat) (htp : x 9 1 = nI tp) (h120 : tp ≤ 120) : Met l yX0_feed (ws_ yX0_feed cX0_feed 4 (some .int)) (rmF 1) (va_Pc [.ref (t.2.1 0), .int v, .int n] (fun U => cK t U ∧ cX t r x U.heap)) (kW (some (.int ((o_feed tp r n).1))) (cX t ((o_feed tp r n).2.1) (fdx x tp v n (o_feed tp r n).2.2)) (cA t)) 0 0 (cA t) := by
  refine kk_start (by decide) (Nat.le_of_ble_eq_true rfl) ?_
  intro p e s m below meth c S hr hlk hin hB ls hl
  obtain ⟨hK, hP⟩ := hB
  have hx := S.1
  have hb := S.2.1
  have hown : s.vm.findClass RX0 = some m.cls := S.2.2.2.1
  have hts := S.2.2.2.2
  have hS : va_S (cA t) s.heap s.heap [] := va_S.rf
  have hl : lv_has ls 4 [(0, .ref (t.2.1 0)), (1, .int (v)), (2, .int (n))] := hl
  refine lv_iload_n hx hb dX0_feed_0 rfl (lv_at hl 2 rfl) ?_
  refine lv_iconst (v := 1) hx hb dX0_feed_1 (by decide) ?_
  refine lv_iconst (v := 4) hx hb dX0_feed_2 (by decide) ?_
  refine cc_in S (rm_ok (Nat.le_of_ble_eq_true rfl)) hl.1 (Nat.le_of_ble_eq_true rfl) dX0_feed_3 ?_
  refine kb_ifne (tgt := 15) S dX0_feed_6 (by decide) (fun c_6 => ?_) (fun c_6 => ?_)
  · skip
    obtain ⟨n_, hn_, rfl⟩ := nat_of_1 (n := 4) (rfl) (by omega) c_6
    have hcl_n_ := nI_clamp (n := n_) (by omega)
    refine lv_aload_n hx hb dX0_feed_15 rfl (lv_at hl 0 rfl) ?_
    refine cg_taped S hK hP dX0_feed_16 ?_
    refine lv_iload_n hx hb dX0_feed_19 rfl (lv_at hl 2 rfl) ?_
    refine lv_iadd hx hb dX0_feed_20 ?_
    refine lv_bipush (v := 120) hx hb dX0_feed_21 (by decide) ?_
    refine kb_le_n (tgt := 32) (a := (tp + n_)) (b := 120) S (nn_add htp rfl) rfl (by omega) (by omega) dX0_feed_23 (by decide) (fun c_23 => ?_) (fun c_23 => ?_)
    · skip
      refine lv_iload_n hx hb dX0_feed_32 rfl (lv_at hl 2 rfl) ?_
      refine lv_iconst (v := 1) hx hb dX0_feed_33 (by decide) ?_
      refine lv_isub hx hb dX0_feed_34 ?_
      refine kb_nat (y := dj n_) (dj_pred n_) ?_
      refine lv_istore_n (lv' := [(3, .int ((dj n_))), (0, .ref (t.2.1 0)), (1, .int (v)), (2, .int ((nI n_)))]) hx hb dX0_feed_35 rfl hl (by decide) rfl (fun ls hl => ?_)
      rw [← XF_0 htp] at hP
      have lp_36 : ∀ (j : Nat) (f5 : Rw) (q : Nat) (H : Heap) (locs : List Loc) (ls : Array Slot), (q + j = tp + n_) → (p_feed v j f5 q = p_feed v n_ (x 5) tp) → cX t (r) ((XF x f5 q)) H → va_S (cA t) s.heap H locs → lv_has ls 4 [(0, .ref (t.2.1 0)), (1, .int (v)), (2, .int ((nI n_))), (3, .int ((dj j)))] → W p l e (rmF 1) s m ([.ref (t.2.1 0), .int v, .int (nI n_)] : List Value).toArray below meth c H locs 0 0 (MQ below (kW (some (.int ((o_feed tp r (nI n_)).1))) (cX t ((o_feed tp r (nI n_)).2.1) (fdx x tp v (nI n_) (o_feed tp r (nI n_)).2.2)) (cA t)) ([.ref (t.2.1 0), .int v, .int (nI n_)] : List Value).toArray s 0 0 (cA t)) (F0 m 36 ls []) := by
        intro j
        induction j with
        | zero =>
          intro f5 q H locs ls hkj he hP hS hl
          refine lv_iload_n hx hb dX0_feed_36 rfl (lv_at hl 3 rfl) ?_
          refine lv_if_lt (tgt := 75) hx hb dX0_feed_37 (by decide) (fun c_37 => ?_) (fun c_37 => ?_)
          · skip
            have hq : q = tp + n_ := by omega
            refine lv_aload_n hx hb dX0_feed_75 rfl (lv_at hl 0 rfl) ?_
            refine cg_taped S hK hP dX0_feed_76 ?_
            exact kk_iretW S hr hlk hS (by simp only [o_feed, c_6, hcl_n_, c_23, reduceIte, and_self, oK, fdx]; rw [← hq, ← he]; exact hP) (by simp only [o_feed, c_6, hcl_n_, c_23, reduceIte, and_self, oK]; exact congrArg nI hq) dX0_feed_79
          · exact absurd (show dj 0 < 0 by decide) c_37
        | succ j ih =>
          intro f5 q H locs ls hkj he hP hS hl
          have ih_36 := ih
          refine lv_iload_n hx hb dX0_feed_36 rfl (lv_at hl 3 rfl) ?_
          refine kb_lt0_n (tgt := 75) (a := j) S rfl (by omega) dX0_feed_37 (by decide) (fun c_37 => ?_) (fun c_37 => ?_)
          · exact c_37.elim
          · skip
            refine lv_aload_n hx hb dX0_feed_40 rfl (lv_at hl 0 rfl) ?_
            refine cg_reader S hK hP dX0_feed_41 ?_
            refine cgn_tape S hK hP dX0_feed_44 ?_
            refine lv_aload_n hx hb dX0_feed_47 rfl (lv_at hl 0 rfl) ?_
            refine cg_taped S hK hP dX0_feed_48 ?_
            refine lv_iload_n hx hb dX0_feed_51 rfl (lv_at hl 1 rfl) ?_
            refine lv_bipush (v := 8) hx hb dX0_feed_52 (by decide) ?_
            refine lv_iload_n hx hb dX0_feed_54 rfl (lv_at hl 3 rfl) ?_
            refine lv_imul hx hb dX0_feed_55 ?_
            refine lv_ishr hx hb dX0_feed_56 ?_
            refine lv_i2b hx hb dX0_feed_57 rfl ?_
            refine ck_stT S hK hP hS (fun _ h => h) (q) (by omega) ((v >>> ((8 * nI j) &&& 31)) &&& 255) (by rw [i8_and, i8_8]; rfl) rfl dX0_feed_58 (fun H locs hP hS => ?_)
            refine lv_aload_n hx hb dX0_feed_59 rfl (lv_at hl 0 rfl) ?_
            refine lv_dup hx hb dX0_feed_60 rfl ?_
            refine cg_taped S hK hP dX0_feed_61 ?_
            refine lv_iconst (v := 1) hx hb dX0_feed_64 (by decide) ?_
            refine lv_iadd hx hb dX0_feed_65 ?_
            refine kb_nat (y := nI ((q + 1))) (nn_add rfl rfl) ?_
            refine cp_taped S hK hP hS (fun _ h => h) dX0_feed_66 (fun H locs hP hS => ?_)
            rw [XF_1] at hP
            refine lv_iinc (v := (dj j)) (lv' := [(3, .int ((dj j))), (0, .ref (t.2.1 0)), (1, .int (v)), (2, .int ((nI n_)))]) hx hb dX0_feed_69 hl (k := 3) rfl (dj_dec j) (by decide) rfl (fun ls hl => ?_)
            refine lv_goto (tgt := 36) hx hb dX0_feed_72 (by decide) ?_
            exact ih_36  (upd f5 q ((v >>> ((8 * nI j) &&& 31)) &&& 255)) (q + 1) _ _ ls (by omega) (by have h := he; rw [p_feed] at h; exact h) hP hS (lv_sub hl [1, 2, 3, 0] rfl)
      exact lp_36 n_ _ tp _ _ ls (by omega) (rfl) hP hS (lv_sub hl [1, 2, 3, 0] rfl)
    · skip
      refine lv_aload_n hx hb dX0_feed_26 rfl (lv_at hl 0 rfl) ?_
      refine lv_iconst (v := 1) hx hb dX0_feed_27 (by decide) ?_
      refine cc_finding S hK hP hS (rm_ok (Nat.le_of_ble_eq_true rfl)) hl.1 (1) (by omega) rfl (Nat.le_of_ble_eq_true rfl) dX0_feed_28 (fun H locs hP hS => ?_)
      exact kk_iretW S hr hlk hS (by simp only [o_feed, c_6, hcl_n_, Nat.not_le.mpr c_23, reduceIte, and_self, oF, fdx]; exact hP) (by simp only [o_feed, c_6, hcl_n_, Nat.not_le.mpr c_23, reduceIte, and_self, oF]) dX0_feed_31
  · skip
    refine lv_aload_n hx hb dX0_feed_9 rfl (lv_at hl 0 rfl) ?_
    refine lv_iconst (v := 0) hx hb dX0_feed_10 (by decide) ?_
    refine cc_finding S hK hP hS (rm_ok (Nat.le_of_ble_eq_true rfl)) hl.1 (0) (by omega) rfl (Nat.le_of_ble_eq_true rfl) dX0_feed_11 (fun H locs hP hS => ?_)
    exact kk_iretW S hr hlk hS (by simp only [o_feed, c_6, reduceIte, oF, fdx]; exact hP) (by simp only [o_feed, c_6, reduceIte, oF]) dX0_feed_14
section CC
variable {p : Program} {l : Launch} {e : Env} {R : Room} {s : State} {m : MethodId} {args : Array Value} {below : List Frame} {meth : Method} {c : Code} {H H0 : Heap} {locs : List Loc} {cells slots : Nat} {Q : State → Prop}
variable {cc : ByteArray} {pc nL : Nat} {ls : Array Slot} {rest : List Value} {t : CT} {r : Rw} {x : Nat → Rw}
end CC

/-! COMPONENT: days of a World, in numbers -/
theorem p_can2_0 (r : Rw) (a b : Nat) : p_can2 r a b 0 = r := by
  have h0 : ∀ x : Int32, x - 0 = x := fun x => Int32.sub_zero x
  have hu : ∀ (q : Rw) (i : Nat), upd q i (q i) = q := fun q i => by funext j; by_cases h : j = i <;> simp [upd, h]
  unfold p_can2
  rw [h0, hu, h0, hu]
def p_cans (n : Nat) (r : Rw) : Rw := lp (fun a q => lp (fun b q => p_can q a b) (n - (a + 1)) (a + 1) q) n 0 r
theorem p_s2_cans (r : Rw) : p_s2 r = p_cans (pN r) (p_s1 r) := rfl
theorem kp_cans {b : Nat} {r r1 : Rw} (hV : pV b r) (h : kp r r1) : kp r (p_cans (pN r) r1) := by
  refine kp_lp (N := 8) (fun a r q ha h => ?_) _ _ _ (by have := hV.n.2; omega) h
  exact kp_lp (N := 8) (fun c r q hc h => kp_can h ha hc) _ _ _ (by have := hV.n.2; omega) h
/-- what add makes while it empties the new cask's rows -/
def p_zero (r : Rw) (n : Nat) : Nat → Rw
  | 0 => r
  | w + 1 => upd (p_zero r n w) (16 + 7 * n + w) 0
theorem p_zero_0 (r : Rw) (n : Nat) : ∀ w, p_zero r n w 0 = r 0
  | 0 => rfl
  | w + 1 => by rw [p_zero, upd, if_neg (by omega), p_zero_0 r n w]
theorem p_comes_eq (r : Rw) (i c : Int32) (h8 : pN r < 8) : upd (upd (upd (upd (p_zero r (pN r) 7) (16 + 7 * pN r + 0) i) (16 + 7 * pN r + 1) c) (16 + 7 * pN r + 4) 100) 0 (r 0 + 1) = p_comes r i c := by
  funext j
  simp only [p_comes, p_zero, upd]
  grind

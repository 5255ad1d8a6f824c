/-! THE PURE PICTURE: a row r of 82 numbers: 0 how many casks, 1 the day, 2 z, 3 claps, 4.. frost, 10.. storms, 16 + 7 k + w: of cask k (0 kind, 1 cellar, 2 peal, 3 pitch, 4 hoops, 5 age, 6 burst), 72.. what spots hold -/
def pN (r : Rw) : Nat := (r 0).toNatClampNeg
def pK (r : Rw) (k : Nat) : Nat := (r (16 + 7 * k)).toNatClampNeg
def pC (r : Rw) (k : Nat) : Nat := (r (16 + 7 * k + 1)).toNatClampNeg
def pD (r : Rw) : Nat := (r 1).toNatClampNeg
/-- a row that stands: at most 8 casks, its day at most b, kinds and cellars in range, spots hold -1 or a number of a cask -/
def pV (b : Nat) (r : Rw) : Prop := (∃ n, n ≤ 8 ∧ r 0 = nI n) ∧ (∃ d, d ≤ b ∧ r 1 = nI d) ∧ (∀ k, k < 8 → (∃ i, i < 7 ∧ r (16 + 7 * k) = nI i) ∧ ∃ i, i < 6 ∧ r (16 + 7 * k + 1) = nI i) ∧ ∀ k, k < 10 → r (72 + k) = -1 ∨ ∃ i, i < 8 ∧ r (72 + k) = nI i
theorem pv_x {x : Int32} {n N : Nat} (h : x = nI n) (hn : n ≤ N) (hN : N < 2 ^ 31) : x = nI x.toNatClampNeg ∧ x.toNatClampNeg ≤ N := by
  rw [h, nI_clamp (by omega)]
  exact ⟨rfl, hn⟩
theorem pV.n {b : Nat} {r : Rw} (h : pV b r) : r 0 = nI (pN r) ∧ pN r ≤ 8 := by
  obtain ⟨⟨n, h1, h2⟩, -⟩ := h
  exact pv_x h2 h1 (by decide)
theorem pV.d {b : Nat} {r : Rw} (h : pV b r) (hb : b < 2 ^ 31) : r 1 = nI (pD r) ∧ pD r ≤ b := by
  obtain ⟨-, ⟨n, h1, h2⟩, -⟩ := h
  exact pv_x h2 h1 hb
theorem pV.k {b : Nat} {r : Rw} (h : pV b r) {k : Nat} (hk : k < 8) : r (16 + 7 * k) = nI (pK r k) ∧ pK r k < 7 := by
  obtain ⟨-, -, h, -⟩ := h
  obtain ⟨⟨n, h1, h2⟩, -⟩ := h k hk
  have := pv_x (N := 6) h2 (by omega) (by decide)
  exact ⟨this.1, by have := this.2; unfold pK; omega⟩
theorem pV.c {b : Nat} {r : Rw} (h : pV b r) {k : Nat} (hk : k < 8) : r (16 + 7 * k + 1) = nI (pC r k) ∧ pC r k < 6 := by
  obtain ⟨-, -, h, -⟩ := h
  obtain ⟨-, ⟨n, h1, h2⟩⟩ := h k hk
  have := pv_x (N := 5) h2 (by omega) (by decide)
  exact ⟨this.1, by have := this.2; unfold pC; omega⟩
/-- sets as numbers -/
theorem nn_or {a b : Int32} {x y : Nat} (ha : a = nI x) (hb : b = nI y) : a ||| b = nI (x ||| y) := by
  rw [ha, hb]
  exact Int32.toBitVec_inj.mp (by show BitVec.ofNat 32 x ||| BitVec.ofNat 32 y = BitVec.ofNat 32 (x ||| y); exact (BitVec.ofNat_or ..).symm)
theorem nn_and {a b : Int32} {x y : Nat} (ha : a = nI x) (hb : b = nI y) : a &&& b = nI (x &&& y) := by
  rw [ha, hb]
  exact Int32.toBitVec_inj.mp (by show BitVec.ofNat 32 x &&& BitVec.ofNat 32 y = BitVec.ofNat 32 (x &&& y); exact (BitVec.ofNat_and ..).symm)
theorem nn_shl1 : ∀ k, k < 31 → (1 : Int32) <<< (nI k &&& 31) = nI (2 ^ k) := by decide
/-- how many are in a set -/
def pcf : Nat → Nat → Nat
  | 0, _ => 0
  | f + 1, a => if a = 0 then 0 else pcf f (a &&& (a - 1)) + 1
def p_many (a : Nat) : Nat := pcf a a
def p_there (r : Rw) (c : Int32) : Nat := lp (fun k a => a ||| (if r (16 + 7 * k + 1) = c then 2 ^ k else 0)) (pN r) 0 0
def p_less (r : Rw) (k : Nat) (b : Option Nat) : Bool := match b with
  | none => true
  | some j => decide (r (16 + 7 * k + 2) < r (16 + 7 * j + 2))
def p_emp (r : Rw) (c : Int32) : Option Nat := lp (fun k b => if r (16 + 7 * k + 1) = c ∧ p_less r k b = true then some k else b) (pN r) 0 none
def p_crack (r : Rw) (k : Nat) : Int32 := imax 0 (2 * r (16 + 7 * k + 2) - r (16 + 7 * k + 5))
def p_roll (r : Rw) (k : Nat) : Int32 := r (16 + 7 * k + 2) - r (16 + 7 * k + 2) / 4 + r (16 + 7 * k + 5)
def p_loud (r : Rw) (k : Nat) : Int32 := match pK r k with
  | 1 => p_crack r k
  | 2 => p_roll r k
  | 3 => p_roll r k / 2
  | 4 => p_roll r k / 2 + 5 * (nI (p_many (p_there r (r (16 + 7 * k + 1)))) - 1)
  | 5 => 0
  | 6 => if 10 ≤ r (16 + 7 * k + 5) then 0 else p_crack r k
  | _ => r (16 + 7 * k + 2)
def p_leaks (r : Rw) (k : Nat) : Int32 := match pK r k with
  | 1 => 3
  | 3 => 0
  | 4 => 0
  | 5 => 5
  | 6 => 5
  | _ => 1
def p_plain (r : Rw) (k : Nat) : Int32 := imax 0 (r (16 + 7 * k + 4) - 5 * r (4 + pC r k))
def p_bears (r : Rw) (k : Nat) : Int32 := match pK r k with
  | 1 => p_plain r k / 2
  | 6 => p_plain r k / 2
  | 2 => p_plain r k + 10
  | 3 => p_plain r k + 10
  | 4 => p_plain r k + 10
  | _ => p_plain r k
theorem lp_bound {f : Nat → Nat → Nat} {N : Nat} (h : ∀ k a, k < N → a < 2 ^ N → f k a < 2 ^ N) : ∀ j k a, k + j ≤ N → a < 2 ^ N → lp f j k a < 2 ^ N
  | 0, _, _, _, ha => ha
  | j + 1, k, a, hk, ha => lp_bound h j (k + 1) (f k a) (by omega) (h k a (by omega) ha)
theorem p_there_lt {b : Nat} {r : Rw} (hV : pV b r) (c : Int32) : p_there r c < 256 := by
  refine lp_bound (N := 8) (fun k a hk ha => ?_) _ _ _ (by have := hV.n.2; omega) (by decide)
  refine Nat.or_lt_two_pow ha ?_
  split
  · exact Nat.pow_lt_pow_right (by decide) hk
  · decide

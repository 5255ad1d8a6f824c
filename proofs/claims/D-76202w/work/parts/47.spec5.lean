/-! WHERE, AS WHAT; BLENDS -/
def gN (w : Nat) : Nat := if w = 0 then 6 else if w = 1 then 5 else if w = 3 then 11 else 999
theorem p_great_n : ∀ w, w < 7 → p_great (nI w) = nI (gN w) := by decide
def p_byT (r : Rw) (k w n v : Nat) : Int32 := p_loud (p_goes n (upd r (16 + 7 * k + w) (nI v))) k
def p_byf (r : Rw) (k w n v : Nat) (s : Int32 × Int32) : Int32 × Int32 := (if s.2 < p_byT r k w n v then nI v else s.1, imax s.2 (p_byT r k w n v))
def p_by (r : Rw) (k w n : Nat) : Int32 × Int32 := lp (p_byf r k w n) (gN w + 1) 0 (0, -1)
def o_lay (r : Rw) (a n : Int32) : Out := if (0 ≤ a ∧ a < r 0) ∧ 0 ≤ n ∧ n ≤ 40 then oK (p_by r a.toNatClampNeg 1 n.toNatClampNeg).1 r else oF 0 r
def o_kindFor (r : Rw) (a n : Int32) : Out := if (0 ≤ a ∧ a < r 0) ∧ 0 ≤ n ∧ n ≤ 40 then oK (p_by r a.toNatClampNeg 0 n.toNatClampNeg).1 r else oF 0 r
def o_pitchFor (r : Rw) (a n : Int32) : Out := if (0 ≤ a ∧ a < r 0) ∧ 0 ≤ n ∧ n ≤ 40 then oK (p_by r a.toNatClampNeg 3 n.toNatClampNeg).1 r else oF 0 r
theorem pV_set {b : Nat} {r : Rw} (hV : pV b r) {k w v : Nat} (hk : k < 8) (hw : w < 7) (h0 : w = 0 → v < 7) (h1 : w = 1 → v < 6) : pV b (upd r (16 + 7 * k + w) (nI v)) := by
  obtain ⟨h2, h3, h4, h5⟩ := hV
  refine ⟨?_, ?_, fun q hq => ⟨?_, ?_⟩, fun q hq => ?_⟩
  · rw [up_n (by omega)]; exact h2
  · rw [up_n (by omega)]; exact h3
  · by_cases e : 16 + 7 * q = 16 + 7 * k + w
    · rw [e, up_s]; exact ⟨v, h0 (by omega), rfl⟩
    · rw [up_n e]; exact (h4 q hq).1
  · by_cases e : 16 + 7 * q + 1 = 16 + 7 * k + w
    · rw [e, up_s]; exact ⟨v, h1 (by omega), rfl⟩
    · rw [up_n e]; exact (h4 q hq).2
  · rw [up_n (by omega)]; exact h5 q hq
theorem pV_free {b : Nat} {r : Rw} (hV : pV b r) {p : Nat} {v : Int32} (hp : 2 ≤ p ∧ p < 72 ∧ (p < 16 ∨ (2 ≤ (p - 16) % 7))) : pV b (upd r p v) := by
  obtain ⟨h2, h3, h4, h5⟩ := hV
  refine ⟨?_, ?_, fun q hq => ⟨?_, ?_⟩, fun q hq => ?_⟩
  · rw [up_n (by omega)]; exact h2
  · rw [up_n (by omega)]; exact h3
  · rw [up_n (by omega)]; exact (h4 q hq).1
  · rw [up_n (by omega)]; exact (h4 q hq).2
  · rw [up_n (by omega)]; exact h5 q hq
def p_hoP (r : Rw) (k n v : Nat) : Bool := decide (p_goes n (upd r (16 + 7 * k + 4) (nI v)) (16 + 7 * k + 6) = r (16 + 7 * k + 6))
def p_hoop (r : Rw) (k n : Nat) : Option Nat := ffs (p_hoP r k n) 201 0
def o_hoopsFor (r : Rw) (a n : Int32) : Out := if 0 ≤ a ∧ a < r 0 then (if 0 ≤ n ∧ n ≤ 20 then oU (p_hoop r a.toNatClampNeg n.toNatClampNeg) r else oF 0 r) else oF 0 r
/-- the greatest below a number with p -/
def dn (p : Nat → Bool) : Nat → Option Nat
  | 0 => none
  | v + 1 => if p v = true then some v else dn p v
def p_frP (r : Rw) (k n v : Nat) : Bool := decide (p_goes n (upd r (4 + k) (nI v)) 3 = r 3)
def p_fros (r : Rw) (k n : Nat) : Option Nat := dn (p_frP r k n) 10
def o_frostFor (r : Rw) (a n : Int32) : Out := if 0 ≤ a ∧ a < 6 then (if 0 ≤ n ∧ n ≤ 40 then oU (p_fros r a.toNatClampNeg n.toNatClampNeg) r else oF 0 r) else oF 0 r
def dj (j : Nat) : Int32 := match j with
  | 0 => -1
  | j + 1 => nI j
theorem dj_dec (j : Nat) : nI j + Int32.ofInt (-1) = dj j := by
  cases j with
  | zero => decide
  | succ j => exact pk_m1 j
theorem ffs_lt0 {p : Nat → Bool} {j i : Nat} (h : ffs p j 0 = some i) : i < j := by have := ffs_lt _ _ _ h; omega
theorem or_none_ {o : Option Nat} : o.or none = o := by cases o <;> rfl
def p_bit (a k : Nat) : Prop := (a / 2 ^ k) &&& 1 = 1
theorem nn_shr {a k : Nat} (ha : a < 2 ^ 31) (hk : k < 31) : nI a >>> (nI k &&& 31) = nI (a / 2 ^ k) := by
  have e : ∀ k, k < 31 → ((nI k &&& 31).toBitVec.smod 32).toNat = k := by decide
  exact pk_shrN ha _ k (e k hk)
def p_blend (r : Rw) (a : Nat) : Int32 := lp (fun k s => s + (if (a / 2 ^ k) &&& 1 = 1 then p_loud r k else 0)) (pN r) 0 0
def o_blend (r : Rw) (a : Int32) : Out := if 0 ≤ a ∧ a ≤ nI (2 ^ pN r - 1) then oK (p_blend r a.toNatClampNeg) r else oF 0 r
def p_fewer (a : Nat) (b : Option Nat) : Bool := match b with
  | none => true
  | some c => decide (p_many a < p_many c)
def p_few (P : Nat → Bool) (a : Nat) (b : Option Nat) : Option Nat := if p_fewer a b = true then (if P a = true then some a else b) else b
def p_order (r : Rw) (v : Int32) : Option Nat := lp (p_few (fun a => decide (p_blend r a = v))) (2 ^ pN r) 0 none
def o_order (r : Rw) (v : Int32) : Out := if 0 ≤ v ∧ v ≤ 9999 then oU (p_order r v) r else oF 0 r
def p_blends (r : Rw) (v w : Int32) : Int32 := lp (fun a n => n + (if v ≤ p_blend r a ∧ p_blend r a ≤ w then 1 else 0)) (2 ^ pN r) 0 0
def o_blends (r : Rw) (v w : Int32) : Out := if 0 ≤ v ∧ v ≤ 9999 then (if 0 ≤ w ∧ w ≤ 9999 then oK (p_blends r v w) r else oF 0 r) else oF 0 r
theorem p2_le {n : Nat} (h : n ≤ 8) : 2 ^ n ≤ 256 := Nat.pow_le_pow_right (n := 2) (by decide) h
theorem p2_pos (n : Nat) : 1 ≤ 2 ^ n := Nat.one_le_two_pow
theorem p_many_le (a : Nat) : p_many a ≤ a := by
  have h : ∀ f a, pcf f a ≤ f := by
    intro f
    induction f with
    | zero => intro a; exact Nat.le_refl 0
    | succ f ih =>
      intro a
      rw [pcf]
      split
      · omega
      · have := ih (a &&& (a - 1)); omega
  exact h a a

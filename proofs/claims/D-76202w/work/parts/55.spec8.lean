/-! DRAWS, SPOTS, IMAGES, COUNTS -/
theorem nn_rem {a c : Int32} {x y : Nat} (ha : a = nI x) (hc : c = nI y) (hx : x < 2 ^ 31) (h0 : 0 < y) (hy : y < 2 ^ 31) : a - a / c * c = nI (x % y) := by rw [ha, hc]; exact pk_rem hx h0 hy
theorem nn_div {a c : Int32} {x y : Nat} (ha : a = nI x) (hc : c = nI y) (hx : x < 2 ^ 31) (h0 : 0 < y) (hy : y < 2 ^ 31) : a / c = nI (x / y) := by rw [ha, hc]; exact pk_div hx h0 hy
def p_draw (r : Rw) : Rw := upd r 2 (r 2 * 1103515245 + 12345)
def p_dN (r : Rw) : Nat := (r 2 * 1103515245 + 12345).toBitVec.toNat / 2 ^ 8
theorem p_dN_lt (r : Rw) : p_dN r < 2 ^ 24 := by
  unfold p_dN
  have := (r 2 * 1103515245 + 12345).toBitVec.isLt
  omega
theorem ushr8 (y : Int32) : (y.toUInt32 >>> ((8 : Int32).toUInt32 &&& Int32.toUInt32 31)).toInt32 = nI (y.toBitVec.toNat / 2 ^ 8) := by
  have h := pk_ushr y 8 8 (by decide)
  have hl := y.toBitVec.isLt
  refine Int32.toBitVec_inj.mp (BitVec.eq_of_toNat_eq ?_)
  rw [h]
  exact (pk_tn (by omega)).symm
def p_st1 (r : Rw) : Rw := p_day (upd (p_draw (p_draw r)) (10 + p_dN r % 6) (nI (p_dN (p_draw r) % 100)))
def p_sts : Nat → Rw → Rw
  | 0, r => r
  | n + 1, r => p_sts n (p_st1 r)
def o_storms (r : Rw) (n : Int32) : Out := if 1 ≤ n ∧ n ≤ 20 then (if pD r + n.toNatClampNeg ≤ 99999 then oK (p_sts n.toNatClampNeg r 3) (p_sts n.toNatClampNeg r) else oF 4 r) else oF 0 r
theorem pV_draw {b : Nat} {r : Rw} (hV : pV b r) : pV b (p_draw r) := pV_free hV (by omega)
theorem pV_st1 {b : Nat} {r : Rw} (hV : pV b r) (hb : b < 2 ^ 30) : pV (b + 1) (p_st1 r) := pV_day (pV_free (pV_draw (pV_draw hV)) (by omega)) hb
def o_seed (r : Rw) (v : Int32) : Out := oK (r 2) (upd r 2 v)
def o_hold (r : Rw) (s a : Int32) : Out := if 0 ≤ s ∧ s ≤ 9 then (if a = -1 ∨ (0 ≤ a ∧ a < r 0) then oK 1 (upd r (72 + s.toNatClampNeg) a) else oF 0 r) else oF 0 r
abbrev p_under (o k : Int32) : Prop := k = 0 ∨ o = k ∨ (k = 2 ∧ (o = 3 ∨ o = 4)) ∨ (k = 3 ∧ o = 4) ∨ (k = 1 ∧ o = 6)
def o_as (r : Rw) (s w : Int32) : Out := if 0 ≤ s ∧ s ≤ 9 then (if 0 ≤ w ∧ w ≤ 6 then (if 0 ≤ r (72 + s.toNatClampNeg) then (if p_under (r (16 + 7 * (r (72 + s.toNatClampNeg)).toNatClampNeg + 0)) w then oK (r (72 + s.toNatClampNeg)) r else oF 2 r) else oF 5 r) else oF 0 r) else oF 0 r
theorem pV.s {b : Nat} {r : Rw} (h : pV b r) {k : Nat} (hk : k < 10) (h0 : 0 ≤ r (72 + k)) : r (72 + k) = nI (r (72 + k)).toNatClampNeg ∧ (r (72 + k)).toNatClampNeg < 8 := by
  obtain ⟨-, -, -, h⟩ := h
  rcases h k hk with h | ⟨i, h1, h2⟩
  · rw [h] at h0; exact absurd h0 (by decide)
  · have := pv_x (N := 7) h2 (by omega) (by decide)
    exact ⟨this.1, by have := this.2; omega⟩
def p_hold (r : Rw) : Int32 := lp (fun k n => n + (if 0 ≤ r (72 + k) then 1 else 0)) 10 0 0
def o_count (tp : Int32) (r : Rw) (w : Int32) : Out := if 0 ≤ w ∧ w < 8 then (match w.toNatClampNeg with
  | 0 => oK (r 1) r
  | 1 => oK (r 0) r
  | 2 => oK (p_sum r 2) r
  | 3 => oK (r 3) r
  | 4 => oK (p_sum r 6) r
  | 5 => oK tp r
  | 6 => oK (r 2) r
  | _ => oK (p_hold r) r) else oF 0 r
theorem st_ix {w : Int32} (h : -1 ≤ w ∧ w ≤ 6) : ∃ j, j < 8 ∧ w + 1 = nI j := by
  have h1 := Int32.le_iff_toInt_le.mp h.1
  have h2 := Int32.le_iff_toInt_le.mp h.2
  have e1 : (-1 : Int32).toInt = -1 := by decide
  have e2 : (6 : Int32).toInt = 6 := by decide
  rw [e1] at h1
  rw [e2] at h2
  have hw : w = Int32.ofInt w.toInt := (Int32.ofInt_toInt w).symm
  generalize w.toInt = z at h1 h2 hw
  have hz : z = -1 ∨ z = 0 ∨ z = 1 ∨ z = 2 ∨ z = 3 ∨ z = 4 ∨ z = 5 ∨ z = 6 := by omega
  rcases hz with rfl | rfl | rfl | rfl | rfl | rfl | rfl | rfl
  · exact ⟨0, by decide, by rw [hw]; decide⟩
  · exact ⟨1, by decide, by rw [hw]; decide⟩
  · exact ⟨2, by decide, by rw [hw]; decide⟩
  · exact ⟨3, by decide, by rw [hw]; decide⟩
  · exact ⟨4, by decide, by rw [hw]; decide⟩
  · exact ⟨5, by decide, by rw [hw]; decide⟩
  · exact ⟨6, by decide, by rw [hw]; decide⟩
  · exact ⟨7, by decide, by rw [hw]; decide⟩
def p_ldl (c : Rw) : Nat → Nat → Rw → Nat × Rw
  | 0, k, r => (k, r)
  | j + 1, k, r => if 0 ≤ c k ∧ c k ≤ 99 then p_ldl c j (k + 1) (upd r (10 + k) (c k)) else (k, r)
def p_load (sv : Sv) (r : Rw) (v : Int32) : Nat × Rw := match sv v.toNatClampNeg with
  | none => (0, r)
  | some q => p_ldl q.2 (min q.1 6) 0 r
def o_load (sv : Sv) (r : Rw) (v : Int32) : Out := oW (p_w sv v) (oK (nI (p_load sv r v).1) (p_load sv r v).2) r
def p_jgl (c r : Rw) : Nat → Nat → Nat
  | 0, k => k
  | j + 1, k => if k < pN r ∧ c k = r (16 + 7 * k + 2) then p_jgl c r j (k + 1) else k
def p_judge (sv : Sv) (r : Rw) (v : Int32) : Int32 := match sv v.toNatClampNeg with
  | none => 0
  | some q => if p_jgl q.2 r q.1 0 < q.1 then nI (1 + p_jgl q.2 r q.1 0) else 0
def o_judge (sv : Sv) (r : Rw) (v : Int32) : Out := oW (p_w sv v) (oK (p_judge sv r v) r) r
theorem isC {r : Rw} {k n : Nat} (hn : r 0 = nI n) (h : n ≤ 8) (hk : k < 2 ^ 31) : (0 ≤ nI k ∧ nI k < r 0) ↔ k < n := by
  rw [hn]
  exact ⟨fun z => (nI_ltI hk (by omega)).mp z.2, fun z => ⟨nI_pos' hk, (nI_ltI hk (by omega)).mpr z⟩⟩
theorem p_w_none {sv : Sv} {v : Int32} (h : p_w sv v = none) : (0 ≤ v ∧ v < 4) ∧ ∃ q, sv v.toNatClampNeg = some q := by
  unfold p_w at h
  split at h
  · next h1 =>
    split at h
    · cases h
    · next q h2 => exact ⟨h1, q, h2⟩
  · cases h

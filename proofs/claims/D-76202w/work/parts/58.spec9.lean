/-! SHEETS: made, written, copied -/
def o_sheet (r : Rw) (v w n : Int32) : Out := if 0 ≤ v ∧ v < 4 then (if w = 0 ∨ w = 8 ∨ w = 16 ∨ w = 32 then (if 0 ≤ n then (if n ≤ 40 then oK (if w = 0 then 0 else n) r else oF 0 r) else oF 6 r) else oF 0 r) else oF 0 r
def p_zz (f : Rw) (v : Nat) : Rw := lp (fun u f => upd f (40 * v + u) 0) 40 0 f
def shx (x : Nat → Rw) (v w n : Int32) (o : Option Nat) : Nat → Rw := match o with
  | none => va_up (va_up (va_up x 6 (upd (x 6) v.toNatClampNeg (if w = 0 then -1 else w))) 7 (upd (x 7) v.toNatClampNeg (if w = 0 then 0 else n))) 8 (p_zz (x 8) v.toNatClampNeg)
  | some j => va_up x 4 (p_fnd (x 4) j)
def p_nar (q w : Int32) : Int32 := if q = 8 then w.toInt8.toInt32 else if q = 16 then w.toInt16.toInt32 else w
def o_write (sv : Sv) (r : Rw) (v i : Int32) : Out := if 0 ≤ v ∧ v < 4 then (match sv v.toNatClampNeg with
  | none => oF 5 r
  | some q => if 0 ≤ i ∧ i ≤ nI q.1 - 1 then oK 1 r else oF 0 r) else oF 0 r
def wrx (x : Nat → Rw) (v i w : Int32) (o : Option Nat) : Nat → Rw := match o with
  | none => va_up x 8 (upd (x 8) (40 * v.toNatClampNeg + i.toNatClampNeg) (p_nar (x 6 v.toNatClampNeg) w))
  | some j => va_up x 4 (p_fnd (x 4) j)
theorem ix_lt {i : Int32} {n : Nat} (hn : n ≤ 40) (h : 0 ≤ i ∧ i ≤ nI n - 1) : ∃ j, j < n ∧ i = nI j := by
  cases n with
  | zero =>
    exact absurd (Int32.le_trans h.1 h.2) (by decide)
  | succ n =>
    rw [nI_pred] at h
    obtain ⟨j, hj, e⟩ := nat_of_le (n := n) rfl (by omega) h
    exact ⟨j, by omega, e⟩
theorem mSv_n {x : Nat → Rw} {i : Nat} (h : x 6 i < 0) : mSv x i = none := if_pos h
theorem mSv_y {x : Nat → Rw} {i : Nat} (h : ¬ x 6 i < 0) : mSv x i = some ((x 7 i).toNatClampNeg, fun k => x 8 (40 * i + k)) := if_neg h
def o_copy (bt : Rw) (sv : Sv) (r : Rw) (v f u g n : Int32) : Out := if 0 ≤ v ∧ v < 4 then (if 0 ≤ u ∧ u < 4 then (match sv v.toNatClampNeg with
  | none => oF 5 r
  | some q => match sv u.toNatClampNeg with
    | none => oF 5 r
    | some q2 => if bt v.toNatClampNeg = bt u.toNatClampNeg then (if 0 ≤ f ∧ 0 ≤ g ∧ 0 ≤ n ∧ n ≤ nI q.1 - f ∧ n ≤ nI q2.1 - g then oK n r else oF 0 r) else oF 2 r) else oF 0 r) else oF 0 r
def p_cpf (a b n k : Nat) (h : Rw) : Rw := upd h (b + (if a < b then n - 1 - k else k)) (h (a + (if a < b then n - 1 - k else k)))
def p_cp (f : Rw) (a b n : Nat) : Rw := lp (p_cpf a b n) n 0 f
def cpx (x : Nat → Rw) (v f u g n : Int32) (o : Option Nat) : Nat → Rw := match o with
  | none => va_up x 8 (p_cp (x 8) (40 * v.toNatClampNeg + f.toNatClampNeg) (40 * u.toNatClampNeg + g.toNatClampNeg) n.toNatClampNeg)
  | some j => va_up x 4 (p_fnd (x 4) j)
theorem cp_nat {f n : Int32} {N : Nat} (hN : N ≤ 40) (hf : 0 ≤ f) (hn : 0 ≤ n) (h : n ≤ nI N - f) : ∃ a c, f = nI a ∧ n = nI c ∧ a + c ≤ N := by
  obtain ⟨a, ha, rfl⟩ := nI_of (Int32.not_lt.mpr hf)
  obtain ⟨c, hc, rfl⟩ := nI_of (Int32.not_lt.mpr hn)
  refine ⟨a, c, rfl, rfl, ?_⟩
  have h1 := Int32.le_iff_toInt_le.mp h
  rw [Int32.toInt_sub, nI_toInt hc, nI_toInt (by omega), nI_toInt ha] at h1
  rw [Int.bmod_eq_of_le (by omega) (by omega)] at h1
  omega
/-- the tape -/
def p_feed (v : Int32) : Nat → Rw → Nat → Rw
  | 0, f, _ => f
  | j + 1, f, p => p_feed v j (upd f p ((v >>> ((8 * nI j) &&& 31)) &&& 255)) (p + 1)
def XF (x : Nat → Rw) (f : Rw) (q : Nat) : Nat → Rw := va_up (va_up x 5 f) 9 (upd (x 9) 1 (nI q))
theorem XF_0 {x : Nat → Rw} {q : Nat} (h : x 9 1 = nI q) : XF x (x 5) q = x := by
  unfold XF
  rw [va_eta, ← h, up_eta, va_eta]
theorem XF_1 (x : Nat → Rw) (f : Rw) (q : Nat) (w : Int32) : va_up (va_up (XF x f q) 5 (upd (XF x f q 5) q w)) 9 (upd (va_up (XF x f q) 5 (upd (XF x f q 5) q w) 9) 1 (nI (q + 1))) = XF x (upd f q w) (q + 1) := by
  funext z
  unfold XF
  by_cases h9 : z = 9
  · subst h9
    funext y
    simp only [va_up, upd]
    by_cases y1 : y = 1
    · simp [upd, y1]
    · simp [upd, y1]
  · by_cases h5 : z = 5
    · subst h5; rfl
    · simp [va_up, h9, h5]
def o_feed (tp : Nat) (r : Rw) (n : Int32) : Out := if 1 ≤ n ∧ n ≤ 4 then (if tp + n.toNatClampNeg ≤ 120 then oK (nI (tp + n.toNatClampNeg)) r else oF 1 r) else oF 0 r
def fdx (x : Nat → Rw) (tp : Nat) (v n : Int32) (o : Option Nat) : Nat → Rw := match o with
  | none => XF x (p_feed v n.toNatClampNeg (x 5) tp) (tp + n.toNatClampNeg)
  | some j => va_up x 4 (p_fnd (x 4) j)
theorem dj_pred (n : Nat) : nI n - 1 = dj n := by
  cases n with
  | zero => decide
  | succ n => exact nI_pred n

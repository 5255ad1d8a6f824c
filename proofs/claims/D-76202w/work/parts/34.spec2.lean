/-! ACTS, in numbers: cellars, storms, casks -/
def o_frost (r : Rw) (a v : Int32) : Out := if 0 ≤ a ∧ a < 6 then (if 0 ≤ v ∧ v ≤ 9 then oK (r (4 + a.toNatClampNeg)) (upd r (4 + a.toNatClampNeg) v) else oF 0 r) else oF 0 r
def o_storm (r : Rw) (a v : Int32) : Out := if 0 ≤ a ∧ a < 6 then (if 0 ≤ v ∧ v ≤ 99 then oK (r (10 + a.toNatClampNeg)) (upd r (10 + a.toNatClampNeg) v) else oF 0 r) else oF 0 r
def o_cellar (r : Rw) (a w : Int32) : Out := if 0 ≤ a ∧ a < 6 then (if 0 ≤ w ∧ w ≤ 3 then (if w = 0 then oK (r (4 + a.toNatClampNeg)) r else if w = 1 then oK (r (10 + a.toNatClampNeg)) r else if w = 2 then oK (nI (p_there r a)) r else oK (oi (p_emp r a)) r) else oF 0 r) else oF 0 r
def p_comes (r : Rw) (i c : Int32) : Rw := upd (upd (upd (upd (upd (upd (upd (upd r (16 + 7 * pN r + 0) i) (16 + 7 * pN r + 1) c) (16 + 7 * pN r + 2) 0) (16 + 7 * pN r + 3) 0) (16 + 7 * pN r + 4) 100) (16 + 7 * pN r + 5) 0) (16 + 7 * pN r + 6) 0) 0 (r 0 + 1)
def o_cask (r : Rw) (i c : Int32) : Out := if 0 ≤ i ∧ i ≤ 6 then (if 0 ≤ c ∧ c < 6 then (if pN r = 8 then oF 1 r else oK (p_comes r i c 0 - 1) (p_comes r i c)) else oF 0 r) else oF 0 r
def o_of (r : Rw) (a w : Int32) : Out := if 0 ≤ a ∧ a < r 0 then (if 0 ≤ w ∧ w ≤ 9 then (match w.toNatClampNeg with
  | 7 => oK (p_loud r a.toNatClampNeg) r
  | 8 => oK (p_leaks r a.toNatClampNeg) r
  | 9 => oK (p_bears r a.toNatClampNeg) r
  | i => oK (r (16 + 7 * a.toNatClampNeg + i)) r) else oF 0 r) else oF 0 r
def p_great (w : Int32) : Int32 := if w = 0 then 6 else if w = 1 then 5 else if w = 3 then 11 else 999
def o_change (r : Rw) (a w v : Int32) : Out := if 0 ≤ a ∧ a < r 0 then (if 0 ≤ w ∧ w ≤ 6 then (if 0 ≤ v ∧ v ≤ p_great w then oK (r (16 + 7 * a.toNatClampNeg + w.toNatClampNeg)) (upd r (16 + 7 * a.toNatClampNeg + w.toNatClampNeg) v) else oF 0 r) else oF 0 r) else oF 0 r
def p_clear (r : Rw) (k : Nat) : Rw := upd (upd r (16 + 7 * k + 2) 0) (16 + 7 * k + 5) 0
def o_sell (r : Rw) (a : Int32) : Out := if 0 ≤ a ∧ a < r 0 then oK (p_loud r a.toNatClampNeg) (p_clear r a.toNatClampNeg) else oF 0 r

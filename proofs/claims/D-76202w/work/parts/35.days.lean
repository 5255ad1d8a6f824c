/-! DAYS -/
def p_more (r : Rw) (k : Nat) (v : Int32) : Rw := upd r (16 + 7 * k + 2) (imin 999 (r (16 + 7 * k + 2) + v))
def p_can2 (r : Rw) (a b : Nat) (v : Int32) : Rw := upd (upd r (16 + 7 * a + 2) (r (16 + 7 * a + 2) - v)) (16 + 7 * b + 2) (upd r (16 + 7 * a + 2) (r (16 + 7 * a + 2) - v) (16 + 7 * b + 2) - v)
def p_can (r : Rw) (a b : Nat) : Rw := if r (16 + 7 * a + 1) = r (16 + 7 * b + 1) then (if r (16 + 7 * a + 3) = r (16 + 7 * b + 3) then p_can2 r a b (imin (r (16 + 7 * a + 2)) (r (16 + 7 * b + 2))) else r) else r
def p_over (r : Rw) (k : Nat) : Bool := decide (p_bears r k < p_loud r k)
def p_str (r : Rw) : Option Nat := ffs (p_over r) (pN r) 0
def p_b1f (k : Nat) (h : Int32) (o : Nat) (q : Rw) : Rw := if o = k then q else if q (16 + 7 * o + 1) = q (16 + 7 * k + 1) then p_more q o h else q
def p_b1 (r : Rw) (k : Nat) : Rw := lp (p_b1f k (r (16 + 7 * k + 2) / 2)) (pN r) 0 r
def p_b2 (r : Rw) (k : Nat) : Rw := upd r (16 + 7 * k + 6) (imin 999 (r (16 + 7 * k + 6) + 1))
def p_b3 (r : Rw) : Rw := upd r 3 (imin 99999 (r 3 + 1))
def p_burst (r : Rw) (k : Nat) : Rw := p_b3 (p_b2 (p_clear (p_b1 r k) k) k)
def p_lk (r : Rw) (k : Nat) : Rw := upd r (16 + 7 * k + 2) (imax 0 (r (16 + 7 * k + 2) - p_leaks r k))
def p_ag (r : Rw) (k : Nat) : Rw := upd r (16 + 7 * k + 5) (imin 999 (r (16 + 7 * k + 5) + 1))
def p_s0 (r : Rw) : Rw := match p_emp r (nI (pD r % 6)) with
  | none => r
  | some k => p_more r k (r (10 + pD r % 6))
def p_s1 (r : Rw) : Rw := lp (fun k q => p_ag (p_lk q k) k) (pN r) 0 (p_s0 r)
def p_s2 (r : Rw) : Rw := lp (fun a q => lp (fun b q => p_can q a b) (pN r - (a + 1)) (a + 1) q) (pN r) 0 (p_s1 r)
def p_bl : Nat → Rw → Rw
  | 0, r => r
  | f + 1, r => match p_str r with
    | none => r
    | some k => p_bl f (p_burst r k)
def p_s3 (r : Rw) : Rw := p_bl 8 (p_s2 r)
def p_day (r : Rw) : Rw := upd (p_s3 r) 1 (p_s3 r 1 + 1)
def p_goes : Nat → Rw → Rw
  | 0, r => r
  | n + 1, r => p_goes n (p_day r)
/-- places that days change -/
def pm (p : Nat) : Prop := p = 3 ∨ (16 ≤ p ∧ p < 72 ∧ ((p - 16) % 7 = 2 ∨ (p - 16) % 7 = 5 ∨ (p - 16) % 7 = 6))
def kp (r r' : Rw) : Prop := ∀ p, ¬ pm p → r' p = r p
theorem kp.rf {r : Rw} : kp r r := fun _ _ => rfl
theorem kp.tr {r r1 r2 : Rw} (h : kp r r1) (h2 : kp r1 r2) : kp r r2 := fun p hp => (h2 p hp).trans (h p hp)
theorem kp.up {r r1 : Rw} {i : Nat} {v : Int32} (h : kp r r1) (hi : pm i) : kp r (upd r1 i v) := fun p hp => (up_n (fun e => hp (by rw [e]; exact hi))).trans (h p hp)
theorem pm2 {k w : Nat} (hk : k < 8) (hw : w = 2 ∨ w = 5 ∨ w = 6) : pm (16 + 7 * k + w) := by unfold pm; omega
theorem pm3 : pm 3 := Or.inl rfl
theorem pV.kp {b : Nat} {r r' : Rw} (h : pV b r) (hk : kp r r') : pV b r' := by
  obtain ⟨h1, h2, h3, h4⟩ := h
  refine ⟨?_, ?_, fun k hk8 => ?_, fun k hk10 => ?_⟩
  · rw [hk 0 (by unfold pm; omega)]; exact h1
  · rw [hk 1 (by unfold pm; omega)]; exact h2
  · rw [hk (16 + 7 * k) (by unfold pm; omega), hk (16 + 7 * k + 1) (by unfold pm; omega)]; exact h3 k hk8
  · rw [hk (72 + k) (by unfold pm; omega)]; exact h4 k hk10
theorem kp.n {r r' : Rw} (hk : ∀ p, ¬ pm p → r' p = r p) : pN r' = pN r := by unfold pN; rw [hk 0 (by unfold pm; omega)]
theorem kp_more {r r1 : Rw} {k : Nat} {v : Int32} (h : kp r r1) (hk : k < 8) : kp r (p_more r1 k v) := h.up (pm2 hk (by omega))
theorem kp_can {r r1 : Rw} {a c : Nat} (h : kp r r1) (ha : a < 8) (hc : c < 8) : kp r (p_can r1 a c) := by
  unfold p_can
  split
  · split
    · exact (h.up (pm2 ha (by omega))).up (pm2 hc (by omega))
    · exact h
  · exact h
theorem kp_lkag {r r1 : Rw} {k : Nat} (h : kp r r1) (hk : k < 8) : kp r (p_ag (p_lk r1 k) k) := (h.up (pm2 hk (by omega))).up (pm2 hk (by omega))
theorem kp_clear {r r1 : Rw} {k : Nat} (h : kp r r1) (hk : k < 8) : kp r (p_clear r1 k) := (h.up (pm2 hk (by omega))).up (pm2 hk (by omega))
theorem kp_lp {f : Nat → Rw → Rw} {N : Nat} (hf : ∀ k r q, k < N → kp r q → kp r (f k q)) {r : Rw} : ∀ j k q, k + j ≤ N → kp r q → kp r (lp f j k q)
  | 0, _, _, _, h => h
  | j + 1, k, q, hk, h => kp_lp hf j (k + 1) (f k q) (by omega) (hf k r q (by omega) h)
theorem kp_burst {r r1 : Rw} {k : Nat} (h : kp r r1) (hk : k < 8) (hn : pN r1 ≤ 8) : kp r (p_burst r1 k) := by
  refine ((kp_clear ?_ hk).up (pm2 hk (by omega))).up pm3
  refine kp_lp (N := 8) (fun o r q ho hq => ?_) _ _ _ (by omega) h
  unfold p_b1f
  split
  · exact hq
  · split
    · exact kp_more hq ho
    · exact hq
theorem ffs_lt {p : Nat → Bool} : ∀ j k i, ffs p j k = some i → i < k + j ∧ k ≤ i
  | 0, _, _, h => by cases h
  | j + 1, k, i, h => by
    rw [ffs] at h
    split at h
    · cases h; omega
    · have := ffs_lt j (k + 1) i h; omega
theorem p_str_lt {b : Nat} {r : Rw} (hV : pV b r) {i : Nat} (h : p_str r = some i) : i < 8 := by
  have := ffs_lt _ _ _ h
  have := hV.n.2
  omega
theorem lp_opt {f : Nat → Option Nat → Option Nat} {N : Nat} (hf : ∀ k o i, k < N → (∀ i, o = some i → i < N) → f k o = some i → i < N) : ∀ j k o, k + j ≤ N → (∀ i, o = some i → i < N) → ∀ i, lp f j k o = some i → i < N
  | 0, _, _, _, h => h
  | j + 1, k, o, hk, h => lp_opt hf j (k + 1) (f k o) (by omega) (fun i hi => hf k o i (by omega) h hi)
theorem p_emp_lt {b : Nat} {r : Rw} (hV : pV b r) {c : Int32} {i : Nat} (h : p_emp r c = some i) : i < 8 := by
  refine lp_opt (N := 8) (fun k o i hk ho hi => ?_) _ _ _ (by have := hV.n.2; omega) (fun i h => by cases h) i h
  split at hi
  · cases hi; exact hk
  · exact ho i hi
theorem kp_s0 {b : Nat} {r : Rw} (hV : pV b r) : kp r (p_s0 r) := by
  unfold p_s0
  split
  · exact kp.rf
  · next k h => exact kp_more kp.rf (p_emp_lt hV h)
theorem kp_s1 {b : Nat} {r : Rw} (hV : pV b r) : kp r (p_s1 r) := kp_lp (N := 8) (fun k r q hk h => kp_lkag h hk) _ _ _ (by have := hV.n.2; omega) (kp_s0 hV)
theorem kp_s2 {b : Nat} {r : Rw} (hV : pV b r) : kp r (p_s2 r) := by
  have h8 := hV.n.2
  refine kp_lp (N := pN r) (fun a r1 q ha h => ?_) _ _ _ (by omega) (kp_s1 hV)
  exact kp_lp (N := pN r) (fun c r q hc h => kp_can h (by omega) (by omega)) _ _ _ (by omega) h
theorem kp_bl {b : Nat} : ∀ (f : Nat) (r r1 : Rw), pV b r1 → kp r r1 → kp r (p_bl f r1)
  | 0, _, _, _, h => h
  | f + 1, r, r1, hV, h => by
    rw [p_bl]
    split
    · exact h
    · next k hk =>
      have h8 := p_str_lt hV hk
      exact kp_bl f r _ (hV.kp (kp_burst kp.rf h8 hV.n.2)) (kp_burst h h8 hV.n.2)
theorem kp_s3 {b : Nat} {r : Rw} (hV : pV b r) : kp r (p_s3 r) := kp_bl 8 r _ (hV.kp (kp_s2 hV)) (kp_s2 hV)
theorem pV_day {b : Nat} {r : Rw} (hV : pV b r) (hb : b < 2 ^ 30) : pV (b + 1) (p_day r) := by
  obtain ⟨h1, ⟨d, hd, h2⟩, h3, h4⟩ := hV.kp (kp_s3 hV)
  refine ⟨?_, ⟨d + 1, by omega, ?_⟩, fun k hk => ?_, fun k hk => ?_⟩
  · rw [p_day, up_n (by omega)]; exact h1
  · rw [p_day, up_s, h2]; exact nI_1 d
  · rw [p_day, up_n (by omega), up_n (by omega)]; exact h3 k hk
  · rw [p_day, up_n (by omega)]; exact h4 k hk
theorem pV_goes {b : Nat} : ∀ (n : Nat) (b : Nat) (r : Rw), pV b r → b + n < 2 ^ 30 → pV (b + n) (p_goes n r)
  | 0, _, _, hV, _ => hV
  | n + 1, b, r, hV, hb => by
    have := pV_goes (b := 0) n (b + 1) (p_day r) (pV_day hV (by omega)) (by omega)
    rw [show b + (n + 1) = b + 1 + n by omega]
    exact this

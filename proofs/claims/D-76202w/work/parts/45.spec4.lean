/-! WHAT WILL BE -/
def p_told (r : Rw) (k w : Nat) : Int32 := if w = 7 then p_loud r k else r (16 + 7 * k + w)
def o_ahead (r : Rw) (a w n : Int32) : Out := if 0 ≤ a ∧ a < r 0 then (if w = 2 ∨ (5 ≤ w ∧ w ≤ 7) then (if 0 ≤ n ∧ n ≤ 100 then oK (p_told (p_goes n.toNatClampNeg r) a.toNatClampNeg w.toNatClampNeg) r else oF 0 r) else oF 0 r) else oF 0 r
def o_claps (r : Rw) (n : Int32) : Out := if 0 ≤ n ∧ n ≤ 100 then oK (p_goes n.toNatClampNeg r 3) r else oF 0 r
/-- days until p, at most j more; k days have gone -/
def p_until (p : Rw → Bool) : Nat → Nat → Rw → Option Nat
  | 0, _, _ => none
  | j + 1, k, r => if p r = true then some k else p_until p j (k + 1) (p_day r)
def oU (o : Option Nat) (r : Rw) : Out := match o with
  | none => oF 3 r
  | some k => oK (nI k) r
def p_bu (r : Rw) (k : Nat) : Option Nat := p_until (fun q => decide (¬ q (16 + 7 * k + 6) = r (16 + 7 * k + 6))) 101 0 r
def p_wh (r : Rw) (k : Nat) (v : Int32) : Option Nat := p_until (fun q => decide (v ≤ p_loud q k)) 101 0 r
def o_bursts (r : Rw) (a : Int32) : Out := if 0 ≤ a ∧ a < r 0 then oU (p_bu r a.toNatClampNeg) r else oF 0 r
def o_when (r : Rw) (a v : Int32) : Out := if 0 ≤ a ∧ a < r 0 then (if 0 ≤ v ∧ v ≤ 2000 then oU (p_wh r a.toNatClampNeg v) r else oF 0 r) else oF 0 r
def p_chain (r q : Rw) : Nat := lp (fun k a => a ||| (if r (16 + 7 * k + 6) < q (16 + 7 * k + 6) then 2 ^ k else 0)) (pN r) 0 0
def o_chain (r : Rw) (n : Int32) : Out := if 0 ≤ n ∧ n ≤ 60 then oK (nI (p_chain r (p_goes n.toNatClampNeg r))) r else oF 0 r
theorem p_goes_n {b : Nat} : ∀ (n b : Nat) (r : Rw), pV b r → b + n < 2 ^ 30 → pN (p_goes n r) = pN r
  | 0, _, _, _, _ => rfl
  | n + 1, b, r, hV, hb => by
    rw [p_goes, p_goes_n (b := 0) n (b + 1) (p_day r) (pV_day hV (by omega)) (by omega)]
    have h := kp.n (kp_s3 hV)
    unfold pN at h ⊢
    rw [p_day, up_n (by omega)]
    exact h
theorem p_ov1 {r : Rw} {k : Nat} (h : ¬ p_loud r k ≤ p_bears r k) : p_over r k = true := decide_eq_true (Int32.not_le.mp h)
theorem p_ov0 {r : Rw} {k : Nat} (h : p_loud r k ≤ p_bears r k) : ¬ p_over r k = true := fun z => absurd (of_decide_eq_true z) (Int32.not_lt.mpr h)
/-- 'aside' may hold anything -/
theorem va_eta {α : Type} (f : Nat → α) (k : Nat) : va_up f k (f k) = f := by
  funext j
  unfold va_up
  split
  · next h => rw [h]
  · rfl
theorem up_eta (f : Rw) (k : Nat) : upd f k (f k) = f := by
  funext j
  unfold upd
  split
  · next h => rw [h]
  · rfl
theorem up_up (f : Rw) (k : Nat) (a b : Int32) : upd (upd f k a) k b = upd f k b := by
  funext j
  unfold upd
  split
  · rfl
  · rfl
theorem mW_a {t : MT} {r : Rw} {x : Nat → Rw} {H : Heap} (h : mW t r x H) : ∃ f, mW t r (va_up x 3 f) H := ⟨x 3, by rw [va_eta]; exact h⟩
theorem mW_a2 {t : MT} {r g : Rw} {x : Nat → Rw} {H : Heap} {j : Nat} (h : mW t r (va_up (va_up x 3 g) 4 (p_fnd (va_up x 3 g 4) j)) H) : ∃ f, mW t r (va_up (va_up x 4 (p_fnd (x 4) j)) 3 f) H := by
  refine ⟨g, ?_⟩
  have e : va_up (va_up x 3 g) 4 (p_fnd (va_up x 3 g 4) j) = va_up (va_up x 4 (p_fnd (x 4) j)) 3 g := by
    funext q
    unfold va_up
    by_cases h4 : q = 4
    · subst h4; rfl
    · rw [if_neg h4]
      by_cases h3 : q = 3
      · rw [if_pos h3, if_pos h3]
      · rw [if_neg h3, if_neg h3, if_neg h4]
  rw [← e]; exact h
theorem mW_a3 {t : MT} {r g : Rw} {x : Nat → Rw} {H : Heap} {o : Option Nat} (h : mW t r (fx (va_up x 3 g) o) H) : ∃ f, mW t r (va_up (fx x o) 3 f) H := by
  cases o with
  | none => exact ⟨g, h⟩
  | some j => exact mW_a2 h
section KOO
variable {p : Program} {l : Launch} {e : Env} {R : Room} {s : State} {m : MethodId} {args : Array Value} {below : List Frame} {meth : Method} {c : Code} {H H0 : Heap} {locs : List Loc} {cells slots : Nat} {Q : State → Prop}
variable {cc : ByteArray} {pc nL : Nat} {ls : Array Slot} {rest : List Value} {t : MT} {r : Rw} {x : Nat → Rw}
theorem c_orNoneO (S : CallFix p m c cc nL s args lw_all RX13) (hK : mK t s) (hP : mW t r x H) (hS : va_S (mA t) H0 H locs) (hR : kRm R 2 cells slots) (hsz : ls.size = nL) {o : Option Nat} (ho : ∀ k, o = some k → k < 2 ^ 31) (hrest : (rest.map fun v => v.category).sum ≤ 8) (hdg : decode cc pc = .ok (.invokevirtual 170, 3)) (kk : ∀ (H1 : Heap) (locs1 : List Loc), mW t r (fx x (oU o r).2.2) H1 → va_S (mA t) H0 H1 locs1 → W p l e R s m args below meth c H1 locs1 cells slots Q (F0 m (pc + 3) ls (.int (oU o r).1 :: rest))) : W p l e R s m args below meth c H locs cells slots Q (F0 m pc ls (.int (oi o) :: .ref (t.2.1 0) :: rest)) := by
  refine c_orNone S hK hP hS hR hsz hrest hdg (fun H1 locs1 hP hS => ?_)
  cases o with
  | none =>
    rw [if_pos (by decide)] at hP ⊢
    exact kk H1 locs1 hP hS
  | some k =>
    have hk := nI_pos (ho k rfl)
    rw [if_neg (show ¬ oi (some k) < 0 from hk)] at hP ⊢
    exact kk H1 locs1 hP hS
end KOO

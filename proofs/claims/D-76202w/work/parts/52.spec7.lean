/-! TOLD CLAPS; sheets: sv i = none, or a length and what it holds -/
abbrev Sv : Type := Nat → Option (Nat × Rw)
def p_tf (c : Rw) (pl : Nat) : Nat → Nat → Rw → Bool
  | 0, _, _ => true
  | j + 1, k, r => if c k = -1 ∨ c k = r pl then p_tf c pl j (k + 1) (p_day r) else false
def p_ist (c : Rw) (len pl : Nat) (r : Rw) : Bool := p_tf c pl len 0 r
def p_fit (P : Nat → Bool) : Nat → Int32 × Int32 → Int32 × Int32
  | 0, s => s
  | v + 1, s => p_fit P v (if P v = true then (s.1 + 1, nI v) else s)
def p_wf (sv : Sv) (r : Rw) (v a : Int32) : Option Nat := if 0 ≤ v ∧ v < 4 then (match sv v.toNatClampNeg with
  | none => some 5
  | some _ => if 0 ≤ a ∧ a < r 0 then none else some 0) else some 0
def wI (o : Option Nat) : Int32 := match o with
  | none => 0
  | some j => fnd j
def p_w (sv : Sv) (v : Int32) : Option Nat := if 0 ≤ v ∧ v < 4 then (match sv v.toNatClampNeg with
  | none => some 5
  | some _ => none) else some 0
/-- the model's sheets -/
def mSv (x : Nat → Rw) : Sv := fun i => if x 6 i < 0 then none else some ((x 7 i).toNatClampNeg, fun k => x 8 (40 * i + k))
def mS (x : Nat → Rw) : Prop := ∀ i, i < 4 → ∃ n, n ≤ 40 ∧ x 7 i = nI n
theorem fnd_ix : ∀ j, j < 7 → (-1000001) - fnd j + 1 = nI (j + 1) := by decide
theorem fnd_ne : ∀ j, j < 7 → ¬ fnd j = 0 := by decide
theorem p_w_lt {sv : Sv} {v : Int32} {j : Nat} (h : p_w sv v = some j) : j < 7 := by
  unfold p_w at h
  split at h
  · split at h
    · cases h; decide
    · cases h
  · cases h; decide
theorem p_wf_lt {sv : Sv} {r : Rw} {v a : Int32} {j : Nat} (h : p_wf sv r v a = some j) : j < 7 := by
  unfold p_wf at h
  split at h
  · split at h
    · cases h; decide
    · split at h
      · cases h
      · cases h; decide
  · cases h; decide
theorem wI_0 {o : Option Nat} (ho : ∀ j, o = some j → j < 7) : wI o = 0 ↔ o = none := by
  cases o with
  | none => exact ⟨fun _ => rfl, fun _ => rfl⟩
  | some j => exact ⟨fun h => absurd h (fnd_ne j (ho j rfl)), fun h => by cases h⟩
theorem wI_s {o : Option Nat} (ho : ∀ j, o = some j → j < 7) (h : ¬ wI o = 0) : ∃ j, o = some j ∧ j < 7 := by
  cases o with
  | none => exact absurd rfl h
  | some j => exact ⟨j, rfl, ho j rfl⟩
theorem p_wf_w {sv : Sv} {r : Rw} {v a : Int32} : p_wf sv r v a = (match p_w sv v with
  | some j => some j
  | none => if 0 ≤ a ∧ a < r 0 then none else some 0) := by
  unfold p_wf p_w
  split
  · split
    · rfl
    · rfl
  · rfl
theorem p_wf_none {sv : Sv} {r : Rw} {v a : Int32} (h : p_wf sv r v a = none) : (0 ≤ v ∧ v < 4) ∧ (0 ≤ a ∧ a < r 0) ∧ ∃ q, sv v.toNatClampNeg = some q := by
  unfold p_wf at h
  split at h
  · next h1 =>
    split at h
    · cases h
    · next q h2 =>
      split at h
      · next h3 => exact ⟨h1, h3, q, h2⟩
      · cases h
  · cases h
theorem mSv_s {x : Nat → Rw} (hs : mS x) {i : Nat} (hi : i < 4) {q : Nat × Rw} (h : mSv x i = some q) : q = ((x 7 i).toNatClampNeg, fun k => x 8 (40 * i + k)) ∧ x 7 i = nI (x 7 i).toNatClampNeg ∧ (x 7 i).toNatClampNeg ≤ 40 := by
  unfold mSv at h
  split at h
  · cases h
  · obtain ⟨n, h1, h2⟩ := hs i hi
    cases h
    exact ⟨rfl, pv_x h2 h1 (by decide)⟩
def p_fitP (c : Rw) (len : Nat) (r : Rw) (k v : Nat) : Bool := p_ist c len 3 (upd r (16 + 7 * k + 2) (nI v))
/-- how many fit, the least of them (l0: what was told of it before) -/
def p_fits (sv : Sv) (l0 : Int32) (r : Rw) (v a : Int32) : Int32 × Int32 := match sv v.toNatClampNeg with
  | none => (0, l0)
  | some q => p_fit (p_fitP q.2 q.1 r a.toNatClampNeg) 101 (0, l0)
def oW (o : Option Nat) (v : Out) (r : Rw) : Out := match o with
  | none => v
  | some j => oF j r
def o_fits (sv : Sv) (l0 : Int32) (r : Rw) (v a : Int32) : Out := oW (p_wf sv r v a) (oK (p_fits sv l0 r v a).1 r) r
def o_pealed (sv : Sv) (l0 : Int32) (r : Rw) (v a : Int32) : Out := oW (p_wf sv r v a) (if 0 < (p_fits sv l0 r v a).1 then oK (p_fits sv l0 r v a).2 r else oF 3 r) r
/-- the least that fits, behind fits and pealed -/
def n_fits (sv : Sv) (l0 : Int32) (r : Rw) (v a : Int32) : Int32 := match p_wf sv r v a with
  | none => (p_fits sv l0 r v a).2
  | some _ => l0
def p_kdf (c : Rw) (len : Nat) (r : Rw) (k v a : Nat) : Nat := a ||| (if p_ist c len (16 + 7 * k + 2) (upd r (16 + 7 * k + 0) (nI v)) = true then 2 ^ v else 0)
def p_kds (sv : Sv) (r : Rw) (v a : Int32) : Nat := match sv v.toNatClampNeg with
  | none => 0
  | some q => lp (p_kdf q.2 q.1 r a.toNatClampNeg) 7 0 0
def o_kinds (sv : Sv) (r : Rw) (v a : Int32) : Out := oW (p_wf sv r v a) (oK (nI (p_kds sv r v a)) r) r
theorem tb_rfl (b : Bool) : (b = true ↔ b = true) := Iff.rfl
theorem mS_up {x : Nat → Rw} {k : Nat} {f : Rw} (h : mS x) (hk : k ≠ 7) : mS (va_up x k f) := fun i hi => by rw [va_un (Ne.symm hk)]; exact h i hi
theorem fit_0 (x : Nat → Rw) : ∃ f, va_up x 9 (upd (x 9) 2 0) = va_up (va_up x 9 (upd (upd (x 9) 2 0) 3 (x 9 3))) 3 f := by
  refine ⟨x 3, ?_⟩
  have e : upd (upd (x 9) 2 0) 3 (x 9 3) = upd (x 9) 2 0 := up_eta (upd (x 9) 2 0) 3
  rw [e]
  exact (va_eta (va_up x 9 (upd (x 9) 2 0)) 3).symm
theorem fit_1 (x : Nat → Rw) {f g : Rw} {cn le v : Int32} : ∃ h, va_up (va_up (va_up (va_up (va_up x 9 (upd (upd (x 9) 2 cn) 3 le)) 3 f) 3 g) 9 (upd (va_up (va_up (va_up x 9 (upd (upd (x 9) 2 cn) 3 le)) 3 f) 3 g 9) 2 (va_up (va_up (va_up x 9 (upd (upd (x 9) 2 cn) 3 le)) 3 f) 3 g 9 2 + 1))) 9 (upd (va_up (va_up (va_up (va_up x 9 (upd (upd (x 9) 2 cn) 3 le)) 3 f) 3 g) 9 (upd (va_up (va_up (va_up x 9 (upd (upd (x 9) 2 cn) 3 le)) 3 f) 3 g 9) 2 (va_up (va_up (va_up x 9 (upd (upd (x 9) 2 cn) 3 le)) 3 f) 3 g 9 2 + 1)) 9) 3 v) = va_up (va_up x 9 (upd (upd (x 9) 2 (cn + 1)) 3 v)) 3 h := by
  refine ⟨g, ?_⟩
  funext q
  by_cases h9 : q = 9
  · subst h9
    funext z
    simp only [va_up, upd]
    by_cases z3 : z = 3
    · subst z3; simp [upd]
    · by_cases z2 : z = 2
      · subst z2; simp [upd]
      · simp [upd, z2, z3]
  · by_cases h3 : q = 3
    · subst h3; simp [va_up]
    · simp [va_up, h9, h3]
/-- the model's plain fields behind fits and pealed -/
def nfx (x : Nat → Rw) (r : Rw) (v a : Int32) : Nat → Rw := match p_wf (mSv x) r v a with
  | none => va_up x 9 (upd (upd (x 9) 2 (p_fits (mSv x) (x 9 3) r v a).1) 3 (p_fits (mSv x) (x 9 3) r v a).2)
  | some _ => x
theorem mW_a4 {t : MT} {r g : Rw} {x : Nat → Rw} {H : Heap} {j : Nat} (h : mW t r (va_up (va_up x 3 g) 4 (p_fnd (x 4) j)) H) : ∃ f, mW t r (va_up (va_up x 4 (p_fnd (x 4) j)) 3 f) H := mW_a2 h

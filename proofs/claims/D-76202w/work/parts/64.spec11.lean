/-! TEXTS: bytes B k (-1 behind the end), tokens -/
def mB (x : Nat → Rw) (tp k : Nat) : Int32 := if k < tp then x 5 k else -1
theorem mB_in {x : Nat → Rw} {tp k : Nat} (h : k < tp) : mB x tp k = x 5 k := if_pos h
theorem mB_out {x : Nat → Rw} {tp k : Nat} (h : tp ≤ k) : mB x tp k = -1 := if_neg (Nat.not_lt.mpr h)
abbrev ltr (c : Int32) : Prop := 97 ≤ c ∧ c ≤ 122
abbrev dgt (c : Int32) : Prop := 48 ≤ c ∧ c ≤ 57
abbrev Bt : Type := Nat → Int32
def q_sk (B : Bt) : Nat → Nat → Nat
  | 0, k => k
  | j + 1, k => if B k = 32 then q_sk B j (k + 1) else k
def q_wl (B : Bt) : Nat → Nat → Nat
  | 0, k => k
  | j + 1, k => if ltr (B k) then q_wl B j (k + 1) else k
def q_nv (v c : Int32) : Int32 := if v ≤ 999 then 10 * v + c - 48 else v
def q_dg (B : Bt) : Nat → Nat → Int32 → Nat × Int32
  | 0, k, v => (k, v)
  | j + 1, k, v => if dgt (B k) then q_dg B j (k + 1) (q_nv v (B k)) else (k, v)
def q_tok (c : Int32) : Nat := if 0 ≤ c then (if ltr c then 1 else if dgt c then 2 else if c = 59 then 3 else 4) else 0
def q_to (B : Bt) (f : Nat) : Nat := match q_tok (B f) with
  | 0 => f
  | 1 => q_wl B 121 f
  | 2 => (q_dg B 121 f 0).1
  | _ => f + 1
def q_val (B : Bt) (f : Nat) : Int32 := match q_tok (B f) with
  | 2 => (q_dg B 121 f 0).2
  | _ => 0
/-- the token's fields in the model -/
def t9 (f : Rw) (a b c d e : Int32) : Rw := fun p => if p = 4 then a else if p = 5 then b else if p = 6 then c else if p = 7 then d else if p = 8 then e else f p
def XT (x : Nat → Rw) (a b c d e : Int32) : Nat → Rw := va_up x 9 (t9 (x 9) a b c d e)
theorem t9_4 {f : Rw} {a b c d e v : Int32} : upd (t9 f a b c d e) 4 v = t9 f v b c d e := by funext p; simp only [upd, t9]; by_cases h : p = 4 <;> simp [h]
theorem t9_5 {f : Rw} {a b c d e v : Int32} : upd (t9 f a b c d e) 5 v = t9 f a v c d e := by funext p; simp only [upd, t9]; by_cases h : p = 5 <;> simp [h]
theorem t9_6 {f : Rw} {a b c d e v : Int32} : upd (t9 f a b c d e) 6 v = t9 f a b v d e := by funext p; simp only [upd, t9]; by_cases h : p = 6 <;> simp [h]
theorem t9_7 {f : Rw} {a b c d e v : Int32} : upd (t9 f a b c d e) 7 v = t9 f a b c v e := by funext p; simp only [upd, t9]; by_cases h : p = 7 <;> simp [h]
theorem t9_8 {f : Rw} {a b c d e v : Int32} : upd (t9 f a b c d e) 8 v = t9 f a b c d v := by funext p; simp only [upd, t9]; by_cases h : p = 8 <;> simp [h]
theorem XT_u {x : Nat → Rw} {a b c d e : Int32} {g : Rw} : va_up (XT x a b c d e) 9 g = va_up x 9 g := bx_uu _ _ _ _
theorem XT_4 {x : Nat → Rw} {a b c d e v : Int32} : va_up (XT x a b c d e) 9 (upd (XT x a b c d e 9) 4 v) = XT x v b c d e := by rw [XT_u]; unfold XT; rw [va_us, t9_4]
theorem XT_5 {x : Nat → Rw} {a b c d e v : Int32} : va_up (XT x a b c d e) 9 (upd (XT x a b c d e 9) 5 v) = XT x a v c d e := by rw [XT_u]; unfold XT; rw [va_us, t9_5]
theorem XT_6 {x : Nat → Rw} {a b c d e v : Int32} : va_up (XT x a b c d e) 9 (upd (XT x a b c d e 9) 6 v) = XT x a b v d e := by rw [XT_u]; unfold XT; rw [va_us, t9_6]
theorem XT_7 {x : Nat → Rw} {a b c d e v : Int32} : va_up (XT x a b c d e) 9 (upd (XT x a b c d e 9) 7 v) = XT x a b c v e := by rw [XT_u]; unfold XT; rw [va_us, t9_7]
theorem XT_8 {x : Nat → Rw} {a b c d e v : Int32} : va_up (XT x a b c d e) 9 (upd (XT x a b c d e 9) 8 v) = XT x a b c d v := by rw [XT_u]; unfold XT; rw [va_us, t9_8]
theorem XT_in (x : Nat → Rw) : XT x (x 9 4) (x 9 5) (x 9 6) (x 9 7) (x 9 8) = x := by
  have h : t9 (x 9) (x 9 4) (x 9 5) (x 9 6) (x 9 7) (x 9 8) = x 9 := by
    funext p
    unfold t9
    split
    · next h => rw [h]
    · split
      · next h => rw [h]
      · split
        · next h => rw [h]
        · split
          · next h => rw [h]
          · split
            · next h => rw [h]
            · rfl
  unfold XT
  rw [h, va_eta]
def Bend (B : Bt) (n : Nat) : Prop := ∀ k, n ≤ k → B k = -1
theorem mB_end (x : Nat → Rw) (tp : Nat) : Bend (mB x tp) tp := fun _ h => mB_out h
theorem q_sk_le {B : Bt} {n : Nat} (hB : Bend B n) : ∀ j k, k ≤ n → q_sk B j k ≤ n
  | 0, _, h => h
  | j + 1, k, h => by
    rw [q_sk]
    split
    · next e =>
      refine q_sk_le hB j (k + 1) ?_
      rcases Nat.lt_or_ge k n with q | q
      · exact q
      · rw [hB k q] at e; exact absurd e (by decide)
    · exact h
theorem q_wl_le {B : Bt} {n : Nat} (hB : Bend B n) : ∀ j k, k ≤ n → q_wl B j k ≤ n
  | 0, _, h => h
  | j + 1, k, h => by
    rw [q_wl]
    split
    · next e =>
      refine q_wl_le hB j (k + 1) ?_
      rcases Nat.lt_or_ge k n with q | q
      · exact q
      · rw [hB k q] at e; exact absurd e (by decide)
    · exact h
theorem q_dg_le {B : Bt} {n : Nat} (hB : Bend B n) : ∀ j k v, k ≤ n → (q_dg B j k v).1 ≤ n
  | 0, _, _, h => h
  | j + 1, k, v, h => by
    rw [q_dg]
    split
    · next e =>
      refine q_dg_le hB j (k + 1) _ ?_
      rcases Nat.lt_or_ge k n with q | q
      · exact q
      · rw [hB k q] at e; exact absurd e (by decide)
    · exact h
theorem q_lt {B : Bt} {n f : Nat} (hB : Bend B n) (h : 0 ≤ B f) : f < n := by
  rcases Nat.lt_or_ge f n with q | q
  · exact q
  · rw [hB f q] at h; exact absurd h (by decide)
theorem q_to_le {B : Bt} {n f : Nat} (hB : Bend B n) (hf : f ≤ n) : q_to B f ≤ n := by
  unfold q_to
  split
  · exact hf
  · exact q_wl_le hB _ _ hf
  · exact q_dg_le hB _ _ _ hf
  · next h0 _ _ =>
    refine q_lt hB ?_
    rcases Decidable.em (0 ≤ B f) with q | q
    · exact q
    · exact absurd (if_neg q) h0
/-- the model's fields behind nextToken, k0: where the token before ended -/
def QX (x : Nat → Rw) (tp k0 : Nat) : Nat → Rw := XT x (nI (q_tok (mB x tp (q_sk (mB x tp) 121 k0)))) (nI (q_sk (mB x tp) 121 k0)) (nI (q_to (mB x tp) (q_sk (mB x tp) 121 k0))) (q_val (mB x tp) (q_sk (mB x tp) 121 k0)) (x 9 8)
theorem mB_lt {x : Nat → Rw} {tp k : Nat} (h : 0 ≤ mB x tp k) : k < tp := q_lt (mB_end x tp) h
theorem qx_0 {x : Nat → Rw} {tp k : Nat} (h : ¬ 0 ≤ mB x tp k) : q_tok (mB x tp k) = 0 := if_neg h
theorem qx_1 {x : Nat → Rw} {tp k : Nat} (h : 0 ≤ mB x tp k) (h1 : ltr (mB x tp k)) : q_tok (mB x tp k) = 1 := by unfold q_tok; rw [if_pos h, if_pos h1]
theorem qx_2 {x : Nat → Rw} {tp k : Nat} (h : 0 ≤ mB x tp k) (h1 : ¬ ltr (mB x tp k)) (h2 : dgt (mB x tp k)) : q_tok (mB x tp k) = 2 := by unfold q_tok; rw [if_pos h, if_neg h1, if_pos h2]
theorem qx_3 {x : Nat → Rw} {tp k : Nat} (h : 0 ≤ mB x tp k) (h1 : ¬ ltr (mB x tp k)) (h2 : ¬ dgt (mB x tp k)) (h3 : mB x tp k = 59) : q_tok (mB x tp k) = 3 := by unfold q_tok; rw [if_pos h, if_neg h1, if_neg h2, if_pos h3]
theorem qx_4 {x : Nat → Rw} {tp k : Nat} (h : 0 ≤ mB x tp k) (h1 : ¬ ltr (mB x tp k)) (h2 : ¬ dgt (mB x tp k)) (h3 : ¬ mB x tp k = 59) : q_tok (mB x tp k) = 4 := by unfold q_tok; rw [if_pos h, if_neg h1, if_neg h2, if_neg h3]

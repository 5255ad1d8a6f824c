/-! READER: keys, good tokens, what a parse ends with; z: the model's fields -/
def klen (k : Nat) : Nat := [4, 5, 4, 6, 4, 4, 6, 5, 5, 2, 4, 5, 5].getD k 0
abbrev keyP (B : Bt) (f n k : Nat) : Prop := n ≤ 6 ∧ (n = 6 ∨ keyC (6 * k + n) = 32) ∧ ∀ i, i < n → keyC (6 * k + i) = B (f + i)
abbrev keyX (B : Bt) (f n k : Nat) : Prop := n = klen k ∧ ∀ i, i < n → B (f + i) = keyC (6 * k + i)
theorem key_len : ∀ k, k < 13 → klen k ≤ 6 ∧ 2 ≤ klen k ∧ (klen k = 6 ∨ keyC (6 * k + klen k) = 32) ∧ (∀ i, i < klen k → ltr (keyC (6 * k + i))) ∧ (∀ i, i ≤ 6 → klen k ≤ i → i = 6 ∨ keyC (6 * k + i) = 32) := by decide +kernel
theorem key_eq : ∀ k, k < 13 → ∀ w, w < 13 → klen k = klen w → (∀ i, i < 6 → i < klen k → keyC (6 * k + i) = keyC (6 * w + i)) → k = w := by decide +kernel
theorem keyX_one {B : Bt} {f n k w : Nat} (hk : k < 13) (hw : w < 13) (h1 : keyX B f n k) (h2 : keyX B f n w) : k = w :=
  key_eq k hk w hw (h1.1.symm.trans h2.1) (fun i _ hi => (h1.2 i (by rw [h1.1]; exact hi)).symm.trans (h2.2 i (by rw [h1.1]; exact hi)))
theorem keyP_X {B : Bt} {f n k : Nat} (hk : k < 13) (hl : ∀ i, i < n → ltr (B (f + i))) : keyP B f n k ↔ keyX B f n k := by
  obtain ⟨q1, q2, q3, q4, q5⟩ := key_len k hk
  constructor
  · intro ⟨h1, h2, h3⟩
    refine ⟨?_, fun i hi => (h3 i hi).symm⟩
    rcases Nat.lt_trichotomy n (klen k) with h | h | h
    · rcases h2 with h2 | h2
      · omega
      · have := q4 n h; rw [h2] at this; exact absurd this (by decide)
    · exact h
    · have e := h3 (klen k) h
      have e2 := hl (klen k) h
      rcases q3 with q3 | q3
      · omega
      · rw [← e, q3] at e2; exact absurd e2 (by decide)
  · intro ⟨h1, h2⟩
    subst h1
    exact ⟨q1, q3, fun i hi => (h2 i hi).symm⟩
def wN (z : Nat → Rw) : Nat := toN z - frN z
/-- the token at z is one that the reader takes -/
def good (tp : Nat) (z : Nat → Rw) : Prop := z 9 4 = 0 ∨ z 9 4 = 3 ∨ (z 9 4 = 2 ∧ z 9 7 ≤ 999) ∨ (z 9 4 = 1 ∧ ∃ k, k < 13 ∧ keyX (mB z tp) (frN z) (wN z) k)
def OKs (tp : Nat) (s : Ps) : Prop := s.1 = true ∧ good tp s.2.2
/-- a token's fields stand -/
def TI (tp : Nat) (z : Nat → Rw) : Prop := PI tp z ∧ frN z ≤ toN z
theorem TI.next {tp : Nat} {z : Nat → Rw} (h : PI tp z) : TI tp (q_next tp z) := by
  refine ⟨h.next, ?_⟩
  rw [next_to h]
  have h2 := q_sk_le (mB_end z tp) 121 (toN z) h.to.2
  have e : frN (q_next tp z) = q_sk (mB z tp) 121 (toN z) := nI_clamp (by have := h.2.1; omega)
  rw [e]
  exact q_to_ge
theorem TI.wn {tp : Nat} {z : Nat → Rw} (h : TI tp z) (n : Nat) (hn : n < 2 ^ 31) : z 9 6 - z 9 5 = nI n ↔ wN z = n := by
  have h1 := h.1.2.1
  have h2 := h.1.to
  have h3 := h.1.fr
  have e : z 9 6 - z 9 5 = nI (toN z - frN z) := nn_sub h2.1 h3.1 h.2
  rw [e]
  exact nI_eq (by omega) hn
theorem key_0 {tp : Nat} {z : Nat → Rw} (h : TI tp z) (h4 : z 9 4 = 1) : m_4 tp z 99 97 115 107 ↔ keyX (mB z tp) (frN z) (wN z) 0 := by
  constructor
  · intro hm
    obtain ⟨⟨-, h2⟩, ⟨b0, b1, b2⟩, -, -, b3⟩ := hm
    have hn := (h.wn 4 (by decide)).mp h2
    refine ⟨hn, fun i hi => ?_⟩
    rw [hn] at hi
    rcases (show i = 0 ∨ i = 1 ∨ i = 2 ∨ i = 3 by omega) with e | e | e | e <;> subst e
    · exact b0
    · exact b1
    · exact b2
    · exact b3
  · intro ⟨g1, g2⟩
    have g1 : wN z = 4 := g1
    have g : ∀ i, i < 4 → mB z tp (frN z + i) = keyC (6 * 0 + i) := fun i hi => g2 i (by omega)
    exact ⟨⟨h4, (h.wn 4 (by decide)).mpr g1⟩, ⟨g 0 (by omega), g 1 (by omega), g 2 (by omega)⟩, ⟨g 1 (by omega), g 2 (by omega), g 3 (by omega)⟩⟩
theorem nkey_0 {tp : Nat} {z : Nat → Rw} (h4 : ¬ z 9 4 = 1) : ¬ m_4 tp z 99 97 115 107 := fun hm => h4 hm.1.1
theorem key_1 {tp : Nat} {z : Nat → Rw} (h : TI tp z) (h4 : z 9 4 = 1) : m_5 tp z 99 114 97 99 107 ↔ keyX (mB z tp) (frN z) (wN z) 1 := by
  constructor
  · intro hm
    obtain ⟨⟨-, h2⟩, ⟨b0, b1, b2⟩, -, b3, b4⟩ := hm
    have hn := (h.wn 5 (by decide)).mp h2
    refine ⟨hn, fun i hi => ?_⟩
    rw [hn] at hi
    rcases (show i = 0 ∨ i = 1 ∨ i = 2 ∨ i = 3 ∨ i = 4 by omega) with e | e | e | e | e <;> subst e
    · exact b0
    · exact b1
    · exact b2
    · exact b3
    · exact b4
  · intro ⟨g1, g2⟩
    have g1 : wN z = 5 := g1
    have g : ∀ i, i < 5 → mB z tp (frN z + i) = keyC (6 * 1 + i) := fun i hi => g2 i (by omega)
    exact ⟨⟨h4, (h.wn 5 (by decide)).mpr g1⟩, ⟨g 0 (by omega), g 1 (by omega), g 2 (by omega)⟩, ⟨g 2 (by omega), g 3 (by omega), g 4 (by omega)⟩⟩
theorem nkey_1 {tp : Nat} {z : Nat → Rw} (h4 : ¬ z 9 4 = 1) : ¬ m_5 tp z 99 114 97 99 107 := fun hm => h4 hm.1.1
theorem key_2 {tp : Nat} {z : Nat → Rw} (h : TI tp z) (h4 : z 9 4 = 1) : m_4 tp z 114 111 108 108 ↔ keyX (mB z tp) (frN z) (wN z) 2 := by
  constructor
  · intro hm
    obtain ⟨⟨-, h2⟩, ⟨b0, b1, b2⟩, -, -, b3⟩ := hm
    have hn := (h.wn 4 (by decide)).mp h2
    refine ⟨hn, fun i hi => ?_⟩
    rw [hn] at hi
    rcases (show i = 0 ∨ i = 1 ∨ i = 2 ∨ i = 3 by omega) with e | e | e | e <;> subst e
    · exact b0
    · exact b1
    · exact b2
    · exact b3
  · intro ⟨g1, g2⟩
    have g1 : wN z = 4 := g1
    have g : ∀ i, i < 4 → mB z tp (frN z + i) = keyC (6 * 2 + i) := fun i hi => g2 i (by omega)
    exact ⟨⟨h4, (h.wn 4 (by decide)).mpr g1⟩, ⟨g 0 (by omega), g 1 (by omega), g 2 (by omega)⟩, ⟨g 1 (by omega), g 2 (by omega), g 3 (by omega)⟩⟩
theorem nkey_2 {tp : Nat} {z : Nat → Rw} (h4 : ¬ z 9 4 = 1) : ¬ m_4 tp z 114 111 108 108 := fun hm => h4 hm.1.1
theorem key_3 {tp : Nat} {z : Nat → Rw} (h : TI tp z) (h4 : z 9 4 = 1) : m_6 tp z 109 101 108 108 111 119 ↔ keyX (mB z tp) (frN z) (wN z) 3 := by
  constructor
  · intro hm
    obtain ⟨⟨-, h2⟩, ⟨b0, b1, b2⟩, b3, b4, b5⟩ := hm
    have hn := (h.wn 6 (by decide)).mp h2
    refine ⟨hn, fun i hi => ?_⟩
    rw [hn] at hi
    rcases (show i = 0 ∨ i = 1 ∨ i = 2 ∨ i = 3 ∨ i = 4 ∨ i = 5 by omega) with e | e | e | e | e | e <;> subst e
    · exact b0
    · exact b1
    · exact b2
    · exact b3
    · exact b4
    · exact b5
  · intro ⟨g1, g2⟩
    have g1 : wN z = 6 := g1
    have g : ∀ i, i < 6 → mB z tp (frN z + i) = keyC (6 * 3 + i) := fun i hi => g2 i (by omega)
    exact ⟨⟨h4, (h.wn 6 (by decide)).mpr g1⟩, ⟨g 0 (by omega), g 1 (by omega), g 2 (by omega)⟩, ⟨g 3 (by omega), g 4 (by omega), g 5 (by omega)⟩⟩
theorem nkey_3 {tp : Nat} {z : Nat → Rw} (h4 : ¬ z 9 4 = 1) : ¬ m_6 tp z 109 101 108 108 111 119 := fun hm => h4 hm.1.1
theorem key_4 {tp : Nat} {z : Nat → Rw} (h : TI tp z) (h4 : z 9 4 = 1) : m_4 tp z 101 99 104 111 ↔ keyX (mB z tp) (frN z) (wN z) 4 := by
  constructor
  · intro hm
    obtain ⟨⟨-, h2⟩, ⟨b0, b1, b2⟩, -, -, b3⟩ := hm
    have hn := (h.wn 4 (by decide)).mp h2
    refine ⟨hn, fun i hi => ?_⟩
    rw [hn] at hi
    rcases (show i = 0 ∨ i = 1 ∨ i = 2 ∨ i = 3 by omega) with e | e | e | e <;> subst e
    · exact b0
    · exact b1
    · exact b2
    · exact b3
  · intro ⟨g1, g2⟩
    have g1 : wN z = 4 := g1
    have g : ∀ i, i < 4 → mB z tp (frN z + i) = keyC (6 * 4 + i) := fun i hi => g2 i (by omega)
    exact ⟨⟨h4, (h.wn 4 (by decide)).mpr g1⟩, ⟨g 0 (by omega), g 1 (by omega), g 2 (by omega)⟩, ⟨g 1 (by omega), g 2 (by omega), g 3 (by omega)⟩⟩
theorem nkey_4 {tp : Nat} {z : Nat → Rw} (h4 : ¬ z 9 4 = 1) : ¬ m_4 tp z 101 99 104 111 := fun hm => h4 hm.1.1
theorem key_5 {tp : Nat} {z : Nat → Rw} (h : TI tp z) (h4 : z 9 4 = 1) : m_4 tp z 104 101 97 116 ↔ keyX (mB z tp) (frN z) (wN z) 5 := by
  constructor
  · intro hm
    obtain ⟨⟨-, h2⟩, ⟨b0, b1, b2⟩, -, -, b3⟩ := hm
    have hn := (h.wn 4 (by decide)).mp h2
    refine ⟨hn, fun i hi => ?_⟩
    rw [hn] at hi
    rcases (show i = 0 ∨ i = 1 ∨ i = 2 ∨ i = 3 by omega) with e | e | e | e <;> subst e
    · exact b0
    · exact b1
    · exact b2
    · exact b3
  · intro ⟨g1, g2⟩
    have g1 : wN z = 4 := g1
    have g : ∀ i, i < 4 → mB z tp (frN z + i) = keyC (6 * 5 + i) := fun i hi => g2 i (by omega)
    exact ⟨⟨h4, (h.wn 4 (by decide)).mpr g1⟩, ⟨g 0 (by omega), g 1 (by omega), g 2 (by omega)⟩, ⟨g 1 (by omega), g 2 (by omega), g 3 (by omega)⟩⟩
theorem nkey_5 {tp : Nat} {z : Nat → Rw} (h4 : ¬ z 9 4 = 1) : ¬ m_4 tp z 104 101 97 116 := fun hm => h4 hm.1.1
theorem key_6 {tp : Nat} {z : Nat → Rw} (h : TI tp z) (h4 : z 9 4 = 1) : m_6 tp z 102 111 114 103 101 100 ↔ keyX (mB z tp) (frN z) (wN z) 6 := by
  constructor
  · intro hm
    obtain ⟨⟨-, h2⟩, ⟨b0, b1, b2⟩, b3, b4, b5⟩ := hm
    have hn := (h.wn 6 (by decide)).mp h2
    refine ⟨hn, fun i hi => ?_⟩
    rw [hn] at hi
    rcases (show i = 0 ∨ i = 1 ∨ i = 2 ∨ i = 3 ∨ i = 4 ∨ i = 5 by omega) with e | e | e | e | e | e <;> subst e
    · exact b0
    · exact b1
    · exact b2
    · exact b3
    · exact b4
    · exact b5
  · intro ⟨g1, g2⟩
    have g1 : wN z = 6 := g1
    have g : ∀ i, i < 6 → mB z tp (frN z + i) = keyC (6 * 6 + i) := fun i hi => g2 i (by omega)
    exact ⟨⟨h4, (h.wn 6 (by decide)).mpr g1⟩, ⟨g 0 (by omega), g 1 (by omega), g 2 (by omega)⟩, ⟨g 3 (by omega), g 4 (by omega), g 5 (by omega)⟩⟩
theorem nkey_6 {tp : Nat} {z : Nat → Rw} (h4 : ¬ z 9 4 = 1) : ¬ m_6 tp z 102 111 114 103 101 100 := fun hm => h4 hm.1.1
theorem key_7 {tp : Nat} {z : Nat → Rw} (h : TI tp z) (h4 : z 9 4 = 1) : m_5 tp z 115 116 111 114 109 ↔ keyX (mB z tp) (frN z) (wN z) 7 := by
  constructor
  · intro hm
    obtain ⟨⟨-, h2⟩, ⟨b0, b1, b2⟩, -, b3, b4⟩ := hm
    have hn := (h.wn 5 (by decide)).mp h2
    refine ⟨hn, fun i hi => ?_⟩
    rw [hn] at hi
    rcases (show i = 0 ∨ i = 1 ∨ i = 2 ∨ i = 3 ∨ i = 4 by omega) with e | e | e | e | e <;> subst e
    · exact b0
    · exact b1
    · exact b2
    · exact b3
    · exact b4
  · intro ⟨g1, g2⟩
    have g1 : wN z = 5 := g1
    have g : ∀ i, i < 5 → mB z tp (frN z + i) = keyC (6 * 7 + i) := fun i hi => g2 i (by omega)
    exact ⟨⟨h4, (h.wn 5 (by decide)).mpr g1⟩, ⟨g 0 (by omega), g 1 (by omega), g 2 (by omega)⟩, ⟨g 2 (by omega), g 3 (by omega), g 4 (by omega)⟩⟩
theorem nkey_7 {tp : Nat} {z : Nat → Rw} (h4 : ¬ z 9 4 = 1) : ¬ m_5 tp z 115 116 111 114 109 := fun hm => h4 hm.1.1
theorem key_8 {tp : Nat} {z : Nat → Rw} (h : TI tp z) (h4 : z 9 4 = 1) : m_5 tp z 102 114 111 115 116 ↔ keyX (mB z tp) (frN z) (wN z) 8 := by
  constructor
  · intro hm
    obtain ⟨⟨-, h2⟩, ⟨b0, b1, b2⟩, -, b3, b4⟩ := hm
    have hn := (h.wn 5 (by decide)).mp h2
    refine ⟨hn, fun i hi => ?_⟩
    rw [hn] at hi
    rcases (show i = 0 ∨ i = 1 ∨ i = 2 ∨ i = 3 ∨ i = 4 by omega) with e | e | e | e | e <;> subst e
    · exact b0
    · exact b1
    · exact b2
    · exact b3
    · exact b4
  · intro ⟨g1, g2⟩
    have g1 : wN z = 5 := g1
    have g : ∀ i, i < 5 → mB z tp (frN z + i) = keyC (6 * 8 + i) := fun i hi => g2 i (by omega)
    exact ⟨⟨h4, (h.wn 5 (by decide)).mpr g1⟩, ⟨g 0 (by omega), g 1 (by omega), g 2 (by omega)⟩, ⟨g 2 (by omega), g 3 (by omega), g 4 (by omega)⟩⟩
theorem nkey_8 {tp : Nat} {z : Nat → Rw} (h4 : ¬ z 9 4 = 1) : ¬ m_5 tp z 102 114 111 115 116 := fun hm => h4 hm.1.1
theorem key_9 {tp : Nat} {z : Nat → Rw} (h : TI tp z) (h4 : z 9 4 = 1) : m_in tp z ↔ keyX (mB z tp) (frN z) (wN z) 9 := by
  constructor
  · intro hm
    obtain ⟨⟨-, h2⟩, b0, b1⟩ := hm
    have hn := (h.wn 2 (by decide)).mp h2
    refine ⟨hn, fun i hi => ?_⟩
    rw [hn] at hi
    rcases (show i = 0 ∨ i = 1 by omega) with e | e <;> subst e
    · exact b0
    · exact b1
  · intro ⟨g1, g2⟩
    have g1 : wN z = 2 := g1
    have g : ∀ i, i < 2 → mB z tp (frN z + i) = keyC (6 * 9 + i) := fun i hi => g2 i (by omega)
    exact ⟨⟨h4, (h.wn 2 (by decide)).mpr g1⟩, g 0 (by omega), g 1 (by omega)⟩
theorem nkey_9 {tp : Nat} {z : Nat → Rw} (h4 : ¬ z 9 4 = 1) : ¬ m_in tp z := fun hm => h4 hm.1.1
theorem key_10 {tp : Nat} {z : Nat → Rw} (h : TI tp z) (h4 : z 9 4 = 1) : m_4 tp z 112 101 97 108 ↔ keyX (mB z tp) (frN z) (wN z) 10 := by
  constructor
  · intro hm
    obtain ⟨⟨-, h2⟩, ⟨b0, b1, b2⟩, -, -, b3⟩ := hm
    have hn := (h.wn 4 (by decide)).mp h2
    refine ⟨hn, fun i hi => ?_⟩
    rw [hn] at hi
    rcases (show i = 0 ∨ i = 1 ∨ i = 2 ∨ i = 3 by omega) with e | e | e | e <;> subst e
    · exact b0
    · exact b1
    · exact b2
    · exact b3
  · intro ⟨g1, g2⟩
    have g1 : wN z = 4 := g1
    have g : ∀ i, i < 4 → mB z tp (frN z + i) = keyC (6 * 10 + i) := fun i hi => g2 i (by omega)
    exact ⟨⟨h4, (h.wn 4 (by decide)).mpr g1⟩, ⟨g 0 (by omega), g 1 (by omega), g 2 (by omega)⟩, ⟨g 1 (by omega), g 2 (by omega), g 3 (by omega)⟩⟩
theorem nkey_10 {tp : Nat} {z : Nat → Rw} (h4 : ¬ z 9 4 = 1) : ¬ m_4 tp z 112 101 97 108 := fun hm => h4 hm.1.1
theorem key_11 {tp : Nat} {z : Nat → Rw} (h : TI tp z) (h4 : z 9 4 = 1) : m_5 tp z 112 105 116 99 104 ↔ keyX (mB z tp) (frN z) (wN z) 11 := by
  constructor
  · intro hm
    obtain ⟨⟨-, h2⟩, ⟨b0, b1, b2⟩, -, b3, b4⟩ := hm
    have hn := (h.wn 5 (by decide)).mp h2
    refine ⟨hn, fun i hi => ?_⟩
    rw [hn] at hi
    rcases (show i = 0 ∨ i = 1 ∨ i = 2 ∨ i = 3 ∨ i = 4 by omega) with e | e | e | e | e <;> subst e
    · exact b0
    · exact b1
    · exact b2
    · exact b3
    · exact b4
  · intro ⟨g1, g2⟩
    have g1 : wN z = 5 := g1
    have g : ∀ i, i < 5 → mB z tp (frN z + i) = keyC (6 * 11 + i) := fun i hi => g2 i (by omega)
    exact ⟨⟨h4, (h.wn 5 (by decide)).mpr g1⟩, ⟨g 0 (by omega), g 1 (by omega), g 2 (by omega)⟩, ⟨g 2 (by omega), g 3 (by omega), g 4 (by omega)⟩⟩
theorem nkey_11 {tp : Nat} {z : Nat → Rw} (h4 : ¬ z 9 4 = 1) : ¬ m_5 tp z 112 105 116 99 104 := fun hm => h4 hm.1.1
theorem key_12 {tp : Nat} {z : Nat → Rw} (h : TI tp z) (h4 : z 9 4 = 1) : m_5 tp z 104 111 111 112 115 ↔ keyX (mB z tp) (frN z) (wN z) 12 := by
  constructor
  · intro hm
    obtain ⟨⟨-, h2⟩, ⟨b0, b1, b2⟩, -, b3, b4⟩ := hm
    have hn := (h.wn 5 (by decide)).mp h2
    refine ⟨hn, fun i hi => ?_⟩
    rw [hn] at hi
    rcases (show i = 0 ∨ i = 1 ∨ i = 2 ∨ i = 3 ∨ i = 4 by omega) with e | e | e | e | e <;> subst e
    · exact b0
    · exact b1
    · exact b2
    · exact b3
    · exact b4
  · intro ⟨g1, g2⟩
    have g1 : wN z = 5 := g1
    have g : ∀ i, i < 5 → mB z tp (frN z + i) = keyC (6 * 12 + i) := fun i hi => g2 i (by omega)
    exact ⟨⟨h4, (h.wn 5 (by decide)).mpr g1⟩, ⟨g 0 (by omega), g 1 (by omega), g 2 (by omega)⟩, ⟨g 2 (by omega), g 3 (by omega), g 4 (by omega)⟩⟩
theorem nkey_12 {tp : Nat} {z : Nat → Rw} (h4 : ¬ z 9 4 = 1) : ¬ m_5 tp z 104 111 111 112 115 := fun hm => h4 hm.1.1
theorem bad_key {tp : Nat} {z : Nat → Rw} (h : ¬ good tp z) {k : Nat} (hk : k < 13) (h4 : z 9 4 = 1) : ¬ keyX (mB z tp) (frN z) (wN z) k := fun q => h (Or.inr (Or.inr (Or.inr ⟨h4, k, hk, q⟩)))
theorem bad_num {tp : Nat} {z : Nat → Rw} (h : ¬ good tp z) {lo hi : Int32} (hh : hi ≤ 999) : ¬ m_num z lo hi := fun q => h (Or.inr (Or.inr (Or.inl ⟨q.1, Int32.le_trans q.2.2 hh⟩)))
theorem bad_0 {tp : Nat} {z : Nat → Rw} (h : ¬ good tp z) (ht : TI tp z) : ¬ m_4 tp z 99 97 115 107 := by
  by_cases h4 : z 9 4 = 1
  · exact fun q => bad_key h (by decide) h4 ((key_0 ht h4).mp q)
  · exact nkey_0 h4
theorem bad_1 {tp : Nat} {z : Nat → Rw} (h : ¬ good tp z) (ht : TI tp z) : ¬ m_5 tp z 99 114 97 99 107 := by
  by_cases h4 : z 9 4 = 1
  · exact fun q => bad_key h (by decide) h4 ((key_1 ht h4).mp q)
  · exact nkey_1 h4
theorem bad_2 {tp : Nat} {z : Nat → Rw} (h : ¬ good tp z) (ht : TI tp z) : ¬ m_4 tp z 114 111 108 108 := by
  by_cases h4 : z 9 4 = 1
  · exact fun q => bad_key h (by decide) h4 ((key_2 ht h4).mp q)
  · exact nkey_2 h4
theorem bad_3 {tp : Nat} {z : Nat → Rw} (h : ¬ good tp z) (ht : TI tp z) : ¬ m_6 tp z 109 101 108 108 111 119 := by
  by_cases h4 : z 9 4 = 1
  · exact fun q => bad_key h (by decide) h4 ((key_3 ht h4).mp q)
  · exact nkey_3 h4
theorem bad_4 {tp : Nat} {z : Nat → Rw} (h : ¬ good tp z) (ht : TI tp z) : ¬ m_4 tp z 101 99 104 111 := by
  by_cases h4 : z 9 4 = 1
  · exact fun q => bad_key h (by decide) h4 ((key_4 ht h4).mp q)
  · exact nkey_4 h4
theorem bad_5 {tp : Nat} {z : Nat → Rw} (h : ¬ good tp z) (ht : TI tp z) : ¬ m_4 tp z 104 101 97 116 := by
  by_cases h4 : z 9 4 = 1
  · exact fun q => bad_key h (by decide) h4 ((key_5 ht h4).mp q)
  · exact nkey_5 h4
theorem bad_6 {tp : Nat} {z : Nat → Rw} (h : ¬ good tp z) (ht : TI tp z) : ¬ m_6 tp z 102 111 114 103 101 100 := by
  by_cases h4 : z 9 4 = 1
  · exact fun q => bad_key h (by decide) h4 ((key_6 ht h4).mp q)
  · exact nkey_6 h4
theorem bad_7 {tp : Nat} {z : Nat → Rw} (h : ¬ good tp z) (ht : TI tp z) : ¬ m_5 tp z 115 116 111 114 109 := by
  by_cases h4 : z 9 4 = 1
  · exact fun q => bad_key h (by decide) h4 ((key_7 ht h4).mp q)
  · exact nkey_7 h4
theorem bad_8 {tp : Nat} {z : Nat → Rw} (h : ¬ good tp z) (ht : TI tp z) : ¬ m_5 tp z 102 114 111 115 116 := by
  by_cases h4 : z 9 4 = 1
  · exact fun q => bad_key h (by decide) h4 ((key_8 ht h4).mp q)
  · exact nkey_8 h4
theorem bad_9 {tp : Nat} {z : Nat → Rw} (h : ¬ good tp z) (ht : TI tp z) : ¬ m_in tp z := by
  by_cases h4 : z 9 4 = 1
  · exact fun q => bad_key h (by decide) h4 ((key_9 ht h4).mp q)
  · exact nkey_9 h4
theorem bad_10 {tp : Nat} {z : Nat → Rw} (h : ¬ good tp z) (ht : TI tp z) : ¬ m_4 tp z 112 101 97 108 := by
  by_cases h4 : z 9 4 = 1
  · exact fun q => bad_key h (by decide) h4 ((key_10 ht h4).mp q)
  · exact nkey_10 h4
theorem bad_11 {tp : Nat} {z : Nat → Rw} (h : ¬ good tp z) (ht : TI tp z) : ¬ m_5 tp z 112 105 116 99 104 := by
  by_cases h4 : z 9 4 = 1
  · exact fun q => bad_key h (by decide) h4 ((key_11 ht h4).mp q)
  · exact nkey_11 h4
theorem bad_12 {tp : Nat} {z : Nat → Rw} (h : ¬ good tp z) (ht : TI tp z) : ¬ m_5 tp z 104 111 111 112 115 := by
  by_cases h4 : z 9 4 = 1
  · exact fun q => bad_key h (by decide) h4 ((key_12 ht h4).mp q)
  · exact nkey_12 h4
theorem bad_kind {tp : Nat} {z : Nat → Rw} (h : ¬ good tp z) (ht : TI tp z) : m_kind tp z = none := by
  unfold m_kind
  rw [if_neg (bad_0 h ht), if_neg (bad_1 h ht), if_neg (bad_2 h ht), if_neg (bad_3 h ht), if_neg (bad_4 h ht), if_neg (bad_5 h ht), if_neg (bad_6 h ht)]
theorem bad_item {tp : Nat} {z : Nat → Rw} {r : Rw} (h : ¬ good tp z) (ht : TI tp z) : m_item tp r z = (false, r, failx z) := by
  unfold m_item
  rw [bad_kind h ht]
  simp only []
  rw [if_neg (bad_7 h ht), if_neg (bad_8 h ht)]
theorem perh_f {tp pl : Nat} {w : Int32} {r : Rw} {z : Nat → Rw} {P : Prop} [Decidable P] (h : ¬ P) : m_perh tp (decide P) pl w r z = (true, r, z) := by rw [decide_eq_false h]; rfl
theorem perh_t {tp pl : Nat} {w : Int32} {r : Rw} {z : Nat → Rw} {P : Prop} [Decidable P] (h : P) : m_perh tp (decide P) pl w r z = m_perh tp true pl w r z := by rw [decide_eq_true h]
theorem and_bad {tp : Nat} {s : Ps} {f : Rw → (Nat → Rw) → Ps} (h : ¬ OKs tp s) (hf : ∀ r z, ¬ good tp z → z = s.2.2 → f r z = (true, r, z)) : m_and s f = s := by
  by_cases h1 : s.1 = true
  · rw [mc_t h1, hf _ _ (fun g => h ⟨h1, g⟩) rfl]
    obtain ⟨a, b, c⟩ := s
    have h1 : a = true := h1
    subst h1
    rfl
  · exact mc_f h1
theorem fault_t {z : Nat → Rw} {r : Rw} : m_fault (true, r, z) = z 9 5 := rfl
theorem fault_f {z : Nat → Rw} {r : Rw} : m_fault (false, r, failx z) = z 9 5 := rfl
/-- the reader's fields u say z -/
def RD (tp : Nat) (z : Nat → Rw) (u : Rw) : Prop := u 0 = nI tp ∧ u 1 = z 9 6 ∧ u 2 = z 9 5 ∧ ((z 9 4 = 0 ∧ u 3 = 0) ∨ (z 9 4 = 3 ∧ u 3 = 3) ∨ (z 9 4 = 2 ∧ z 9 7 ≤ 999 ∧ u 3 = 1 ∧ u 4 = z 9 7) ∨ (z 9 4 = 1 ∧ ∃ k, k < 13 ∧ keyX (mB z tp) (frN z) (wN z) k ∧ u 3 = 2 ∧ u 4 = nI k))
theorem RD.good {tp : Nat} {z : Nat → Rw} {u : Rw} (h : RD tp z u) : good tp z := by
  obtain ⟨-, -, -, h | h | h | ⟨h, k, h1, h2, -⟩⟩ := h
  · exact Or.inl h.1
  · exact Or.inr (Or.inl h.1)
  · exact Or.inr (Or.inr (Or.inl ⟨h.1, h.2.1⟩))
  · exact Or.inr (Or.inr (Or.inr ⟨h, k, h1, h2⟩))
theorem RD.word {tp : Nat} {z : Nat → Rw} {u : Rw} (h : RD tp z u) {w : Nat} (hw : w < 13) : (u 3 = 2 ∧ u 4 = nI w) ↔ (z 9 4 = 1 ∧ keyX (mB z tp) (frN z) (wN z) w) := by
  obtain ⟨-, -, -, h | h | h | ⟨h, k, h1, h2, h3, h4⟩⟩ := h
  · rw [h.1, h.2]; exact ⟨fun q => absurd q.1 (by decide), fun q => absurd q.1 (by decide)⟩
  · rw [h.1, h.2]; exact ⟨fun q => absurd q.1 (by decide), fun q => absurd q.1 (by decide)⟩
  · rw [h.1, h.2.2.1]; exact ⟨fun q => absurd q.1 (by decide), fun q => absurd q.1 (by decide)⟩
  · refine ⟨fun q => ⟨h, ?_⟩, fun q => ⟨h3, ?_⟩⟩
    · have := (nI_eq (by omega) (by omega)).mp (h4.symm.trans q.2)
      rw [← this]; exact h2
    · rw [h4, keyX_one h1 hw h2 q.2]
theorem RD.num {tp : Nat} {z : Nat → Rw} {u : Rw} (h : RD tp z u) {lo hi : Int32} : (u 3 = 1 ∧ lo ≤ u 4 ∧ u 4 ≤ hi) ↔ m_num z lo hi := by
  obtain ⟨-, -, -, h | h | h | ⟨h, k, h1, h2, h3, h4⟩⟩ := h
  · unfold m_num; rw [h.1, h.2]; exact ⟨fun q => absurd q.1 (by decide), fun q => absurd q.1 (by decide)⟩
  · unfold m_num; rw [h.1, h.2]; exact ⟨fun q => absurd q.1 (by decide), fun q => absurd q.1 (by decide)⟩
  · unfold m_num; rw [h.1, h.2.2.1, h.2.2.2]; exact ⟨fun q => ⟨rfl, q.2⟩, fun q => ⟨rfl, q.2⟩⟩
  · unfold m_num; rw [h, h3]; exact ⟨fun q => absurd q.1 (by decide), fun q => absurd q.1 (by decide)⟩
theorem RD.v {tp : Nat} {z : Nat → Rw} {u : Rw} (h : RD tp z u) {lo hi : Int32} (hm : m_num z lo hi) : u 4 = z 9 7 := by
  obtain ⟨-, -, -, h | h | h | ⟨h, k, h1, h2, h3, h4⟩⟩ := h
  · exact absurd (h.1.symm.trans hm.1) (by decide)
  · exact absurd (h.1.symm.trans hm.1) (by decide)
  · exact h.2.2.2
  · exact absurd (h.symm.trans hm.1) (by decide)
/-- ends of parses -/
def s_num (tp : Nat) (lo hi : Int32) (r : Rw) (z : Nat → Rw) : Ps := if m_num z lo hi then (true, r, q_next tp z) else (false, r, failx z)
theorem comes_c (r : Rw) (i c : Int32) : p_comes r i c = upd (p_comes r i 0) (16 + 7 * pN r + 1) c := by
  funext q
  unfold p_comes upd
  by_cases h0 : q = 0
  · subst h0; simp
  · by_cases h1 : q = 16 + 7 * pN r + 1
    · subst h1; simp
    · simp only [h0, h1, if_false]

/-! A LEDGER of cells by codes -/
abbrev Lg : Type := Nat → Option (Nat × va_E)
def LG (D : va_G) (A : Nat → Prop) (G : Lg) (H : Heap) : Prop := (∀ c a e, G c = some (a, e) → va_at D cC (a, e) H ∧ A a) ∧ ∀ c c' a e e', G c = some (a, e) → G c' = some (a, e') → c = c'
def gs (G : Lg) (c : Nat) (v : Nat × va_E) : Lg := fun i => if i = c then some v else G i
theorem LG.lt {D : va_G} {A : Nat → Prop} {G : Lg} {H : Heap} (h : LG D A G H) {c a : Nat} {e : va_E} (hc : G c = some (a, e)) : a < H.size := ((h.1 c a e hc).1).lt
theorem LG.set {D : va_G} {A : Nat → Prop} {G : Lg} {H H1 : Heap} (h : LG D A G H) {c a : Nat} {e e' : va_E} (hc : G c = some (a, e)) (he : va_at D cC (a, e') H1) (oq : ∀ q : Nat, q < H.size → q ≠ a → H1[q]? = H[q]?) : LG D A (gs G c (a, e')) H1 := by
  refine ⟨fun i b x hi => ?_, fun i i' b x x' hi hi' => ?_⟩
  · unfold gs at hi
    by_cases hic : i = c
    · rw [if_pos hic] at hi; cases hi
      exact ⟨he, (h.1 c a e hc).2⟩
    · rw [if_neg hic] at hi
      exact ⟨(h.1 i b x hi).1.kept (oq b (h.lt hi) (fun z => hic (h.2 i c a x e (z ▸ hi) hc))), (h.1 i b x hi).2⟩
  · unfold gs at hi hi'
    by_cases h1 : i = c
    · by_cases h2 : i' = c
      · rw [h1, h2]
      · rw [if_pos h1] at hi; cases hi
        rw [if_neg h2] at hi'
        rw [h1]; exact h.2 c i' a e x' hc hi'
    · rw [if_neg h1] at hi
      by_cases h2 : i' = c
      · rw [if_pos h2] at hi'; cases hi'
        rw [h2]; exact h.2 i c a x e hi hc
      · rw [if_neg h2] at hi'
        exact h.2 i i' b x x' hi hi'
theorem LG.add {D : va_G} {A : Nat → Prop} {G : Lg} {H H1 : Heap} (h : LG D A G H) {c q : Nat} {e : va_E} (hc : G c = none) (hq : H.size ≤ q) (hA : A q) (he : va_at D cC (q, e) H1) (o : ∀ x : Nat, x < H.size → H1[x]? = H[x]?) : LG D A (gs G c (q, e)) H1 := by
  refine ⟨fun i b x hi => ?_, fun i i' b x x' hi hi' => ?_⟩
  · unfold gs at hi
    by_cases hic : i = c
    · rw [if_pos hic] at hi; cases hi
      exact ⟨he, hA⟩
    · rw [if_neg hic] at hi
      exact ⟨(h.1 i b x hi).1.kept (o b (h.lt hi)), (h.1 i b x hi).2⟩
  · unfold gs at hi hi'
    by_cases h1 : i = c
    · by_cases h2 : i' = c
      · rw [h1, h2]
      · rw [if_pos h1] at hi; cases hi
        rw [if_neg h2] at hi'
        exact absurd (h.lt hi') (by omega)
    · rw [if_neg h1] at hi
      by_cases h2 : i' = c
      · rw [if_pos h2] at hi'; cases hi'
        exact absurd (h.lt hi) (by omega)
      · rw [if_neg h2] at hi'
        exact h.2 i i' b x x' hi hi'
/-- a World's twelve cells, behind its constructor -/
def gw (G : Lg) (D : va_G) (cs : Nat → ClassId) (b : Nat) (ad : Nat → Nat) : Lg := fun i => if b ≤ i ∧ i < b + 12 then some (ad (i - b), wE (D, ad, cs) r_0 (i - b)) else G i
theorem LG.world {D : va_G} {A : Nat → Prop} {G : Lg} {H H1 : Heap} (h : LG D A G H) {cs : Nat → ClassId} {b : Nat} {ad : Nat → Nat} {e : va_E} (h0 : G b = some (ad 0, e)) (hn : ∀ j, 0 < j → j < 12 → G (b + j) = none) (hge : ∀ j, 0 < j → j < 12 → H.size ≤ ad j) (hA : ∀ j, 0 < j → j < 12 → A (ad j)) (hinj : ∀ i j, i < 12 → j < 12 → ad i = ad j → i = j) (hw : wW (D, ad, cs) r_0 H1) (o : ∀ x : Nat, x < H.size → ¬ x = ad 0 → H1[x]? = H[x]?) : LG D A (gw G D cs b ad) H1 := by
  have hout : ∀ i a x, ¬ (b ≤ i ∧ i < b + 12) → G i = some (a, x) → ∀ j, j < 12 → a ≠ ad j := fun i a x hi hg j hj z => by
    by_cases hj0 : j = 0
    · subst hj0
      exact hi (by have := h.2 i b a x e hg (z ▸ h0); omega)
    · exact absurd (h.lt hg) (by rw [z]; have := hge j (by omega) hj; omega)
  refine ⟨fun i a x hi => ?_, fun i i' a x x' hi hi' => ?_⟩
  · unfold gw at hi
    by_cases hb : b ≤ i ∧ i < b + 12
    · rw [if_pos hb] at hi; cases hi
      refine ⟨hw (i - b) (by omega), ?_⟩
      by_cases hj0 : i - b = 0
      · rw [hj0]; exact (h.1 b _ _ h0).2
      · exact hA _ (by omega) (by omega)
    · rw [if_neg hb] at hi
      exact ⟨(h.1 i a x hi).1.kept (o a (h.lt hi) (hout i a x hb hi 0 (by decide))), (h.1 i a x hi).2⟩
  · unfold gw at hi hi'
    by_cases h1 : b ≤ i ∧ i < b + 12
    · rw [if_pos h1] at hi; cases hi
      by_cases h2 : b ≤ i' ∧ i' < b + 12
      · rw [if_pos h2] at hi'
        have e1 : ad (i' - b) = ad (i - b) := congrArg Prod.fst (Option.some.inj hi')
        have := hinj _ _ (by omega) (by omega) e1
        omega
      · rw [if_neg h2] at hi'
        exact absurd rfl (hout i' _ x' h2 hi' (i - b) (by omega))
    · rw [if_neg h1] at hi
      by_cases h2 : b ≤ i' ∧ i' < b + 12
      · rw [if_pos h2] at hi'; cases hi'
        exact absurd rfl (hout i _ x h1 hi (i' - b) (by omega))
      · rw [if_neg h2] at hi'
        exact h.2 i i' a x x' hi hi'

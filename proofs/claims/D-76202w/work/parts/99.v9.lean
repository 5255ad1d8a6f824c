theorem LG.merge {D : va_G} {A A' : Nat → Prop} {G G' : Lg} {H H1 : Heap} {o c0 : Nat} {e e' : va_E} (h : LG D A G H) (h' : LG D A' G' H1) (hA' : ∀ q, A' q → q = o ∨ H.size ≤ q) (hAA : ∀ q, A' q → A q) (h0 : G c0 = some (o, e)) (h0' : G' c0 = some (o, e')) (o1 : ∀ x : Nat, x < H.size → ¬ x = o → H1[x]? = H[x]?) : LG D A (fun i => (G' i).or (G i)) H1 := by
  have key : ∀ i a x, G' i = none → G i = some (a, x) → ∀ c' x', G' c' ≠ some (a, x') := fun i a x hn hg c' x' hc' => by
    rcases hA' a (h'.1 c' a x' hc').2 with z | z
    · subst z
      have := h.2 i c0 a x e hg h0
      subst this
      rw [h0'] at hn; cases hn
    · exact absurd (h.lt hg) (by omega)
  refine ⟨fun i a x hi => ?_, fun i i' a x x' hi hi' => ?_⟩
  · cases hg : G' i with
    | some v =>
      simp only [hg, Option.some_or, Option.some.injEq] at hi
      subst hi
      exact ⟨(h'.1 i a x hg).1, hAA a (h'.1 i a x hg).2⟩
    | none =>
      simp only [hg, Option.none_or] at hi
      refine ⟨(h.1 i a x hi).1.kept (o1 a (h.lt hi) (fun z => ?_)), (h.1 i a x hi).2⟩
      exact key i a x hg hi c0 e' (by rw [z]; exact h0')
  · cases hg : G' i with
    | some v =>
      simp only [hg, Option.some_or, Option.some.injEq] at hi
      subst hi
      cases hg' : G' i' with
      | some v' =>
        simp only [hg', Option.some_or, Option.some.injEq] at hi'
        subst hi'
        exact h'.2 i i' a x x' hg hg'
      | none =>
        simp only [hg', Option.none_or] at hi'
        exact absurd hg (key i' a x' hg' hi' i x)
    | none =>
      simp only [hg, Option.none_or] at hi
      cases hg' : G' i' with
      | some v' =>
        simp only [hg', Option.some_or, Option.some.injEq] at hi'
        subst hi'
        exact absurd hg' (key i a x hg hi i' x')
      | none =>
        simp only [hg', Option.none_or] at hi'
        exact h.2 i i' a x x' hi hi'

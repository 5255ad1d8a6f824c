/-! A WORLD's CONSTRUCTOR -/
theorem arrV_cg {cI : ClassId} {n : Nat} {f g : Nat → Value} (h : ∀ j, j < n → f j = g j) : arrV cI n f = arrV cI n g := by
  unfold arrV
  congr 1
  apply Array.ext
  · simp
  · intro i h1 h2
    simp at h1 ⊢
    exact h i h1
abbrev L8 (c1 cI : ClassId) (h : Nat) : va_W := [(h, .inl (c1, 7, .inr (.inr (.inr (.inr (fun k => some (h + 1 + k))))))), (h + 1, .inl (cI, 8, .inl (fun _ => 0))), (h + 2, .inl (cI, 8, .inl (fun _ => 0))), (h + 3, .inl (cI, 8, .inl (fun _ => 0))), (h + 4, .inl (cI, 8, .inl (fun _ => 0))), (h + 5, .inl (cI, 8, .inl (fun _ => 0))), (h + 6, .inl (cI, 8, .inl (fun _ => 0))), (h + 7, .inl (cI, 8, .inl (fun _ => 0)))]
theorem L8_at {c1 cI : ClassId} {h k : Nat} {q : Nat × va_E} (hq : (L8 c1 cI h)[k]? = some q) : k < 8 ∧ q.1 = h + k := by
  have hk : k < 8 := (List.getElem?_eq_some_iff.mp hq).1
  refine ⟨hk, ?_⟩
  rcases (show k = 0 ∨ k = 1 ∨ k = 2 ∨ k = 3 ∨ k = 4 ∨ k = 5 ∨ k = 6 ∨ k = 7 by omega) with e | e | e | e | e | e | e | e <;> subst e <;> cases hq <;> rfl
section KN
variable {p : Program} {l : Launch} {e : Env} {R : Room} {s : State} {m : MethodId} {args : Array Value} {below : List Frame} {meth : Method} {c : Code} {H : Heap} {locs : List Loc} {cells slots : Nat} {Q : State → Prop}
variable {cc : ByteArray} {pc nL : Nat} {ls : Array Slot} {rest st0 : List Value} {own : String} {A : Nat → Prop} {H0 : Heap} {D : va_G} {cl : List vw_C} {ws : va_W} {cI c1 : ClassId}
theorem kn_multi {tys : List (ClassId × FieldType)} (S : CallFix p m c cc nL s args lw_all "ThunderCasks$World") (hK : va_K D cl tys s) (h0 : tys[0]? = some (cI, .int)) (h1 : tys[1]? = some (c1, .array .int)) (hP : va_P D cl ws H) (hD : va_D A ws) (hS : va_S A H0 H locs) (hA : ∀ q, H0.size ≤ q → A q)
    (hcells : cells + (1 + 7) ≤ R.cells) (hslots : slots + (7 + 7 * 8) ≤ R.slots) (hO : ma_AO s) (hdg : decode cc pc = .ok (.multianewarray 18 2, 4))
    (kk : ∀ (h : Nat) (H1 : Heap) (locs1 : List Loc), va_P D cl (ws ++ L8 c1 cI h) H1 → va_D A (ws ++ L8 c1 cI h) → va_S A H0 H1 locs1 →
      W p l e R s m args below meth c H1 locs1 (cells + 1 + 7) (slots + 7 + 7 * 8) Q (F0 m (pc + 4) ls (.ref h :: rest))) : W p l e R s m args below meth c H locs cells slots Q (F0 m pc ls (.int 8 :: .int 7 :: rest)) := by
  refine W.multi (N := 7) (M := 8) S.1 S.2.1 S.2.2.2.1 (S.2.2.2.2 _ q228) hO (S.2.2.2.2 _ q270) (by decide) (by decide) hcells hslots hdg (fun H1 L cA cB hcA hcB z1 e1 e2 o1 hL => ?_)
  have eA : cA = c1 := Option.some.inj (hcA.symm.trans (hK.2 1 _ h1).2)
  have eB : cB = cI := Option.some.inj (hcB.symm.trans (hK.2 0 _ h0).2)
  subst eA
  subst eB
  have hlt : ∀ (k : Nat) (x : Nat × va_E), ws[k]? = some x → x.1 < H.size := fun k x hx => (hP k x hx).lt
  refine kk H.size H1 (locs ++ L) ((hP.kept (fun k x hx => o1 x.1 (hlt k x hx))).app (fun k x hx => ?_)) ⟨fun i j p q hp hq e => ?_, fun k q hq => ?_⟩ ⟨Nat.le_trans hS.1 (by omega), fun q g1 g2 => (o1 q (Nat.lt_of_lt_of_le g1 hS.1)).trans (hS.2.1 q g1 g2), fun q hq => ?_⟩
  · obtain ⟨hk, -⟩ := L8_at hx
    rcases (show k = 0 ∨ k = 1 ∨ k = 2 ∨ k = 3 ∨ k = 4 ∨ k = 5 ∨ k = 6 ∨ k = 7 by omega) with e | e | e | e | e | e | e | e <;> subst e <;> cases hx
    · show H1[H.size]? = some (vp_cell _ _)
      rw [e1]
      exact congrArg some (arrV_cg fun j hj => if_pos hj)
    · exact e2 0 (by decide)
    · exact e2 1 (by decide)
    · exact e2 2 (by decide)
    · exact e2 3 (by decide)
    · exact e2 4 (by decide)
    · exact e2 5 (by decide)
    · exact e2 6 (by decide)
  · by_cases hi : i < ws.length
    · rw [List.getElem?_append_left hi] at hp
      by_cases hj : j < ws.length
      · rw [List.getElem?_append_left hj] at hq
        exact hD.1 i j p q hp hq e
      · rw [List.getElem?_append_right (by omega)] at hq
        have := (L8_at hq).2
        have := hlt i p hp
        omega
    · rw [List.getElem?_append_right (by omega)] at hp
      have h3 := (L8_at hp).2
      by_cases hj : j < ws.length
      · rw [List.getElem?_append_left hj] at hq
        have := hlt j q hq
        omega
      · rw [List.getElem?_append_right (by omega)] at hq
        have h4 := (L8_at hq).2
        omega
  · by_cases hk : k < ws.length
    · rw [List.getElem?_append_left hk] at hq
      exact hD.2 k q hq
    · rw [List.getElem?_append_right (by omega)] at hq
      have h3 := (L8_at hq).2
      exact hA _ (by have := hS.1; omega)
  · rcases List.mem_append.mp hq with h | h
    · exact hS.2.2 q h
    · rw [hL q h]; exact hA _ hS.1
end KN

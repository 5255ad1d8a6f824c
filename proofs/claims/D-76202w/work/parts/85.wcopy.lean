/-! COMPONENT: World.copy (System.arraycopy of a whole row) -/
set_option maxHeartbeats 4000000 in
set_option maxRecDepth 100000 in
theorem k4_copy (l : Launch) (D : va_G) (cI : ClassId) (n A B : Nat) (f g : Rw) (hAB : A ≠ B) (hn : n < 2 ^ 31) : Met l yX4_copy (ws_ yX4_copy cX4_copy 2 none) (rmF 1) (va_Pc [.ref A, .ref B] (fun U => va_K D cC [(cI, .int)] U ∧ U.heap[A]? = some (vp_cell cI (n, .inl f)) ∧ U.heap[B]? = some (vp_cell cI (n, .inl g)))) (kW none (fun H => H[A]? = some (vp_cell cI (n, .inl f)) ∧ H[B]? = some (vp_cell cI (n, .inl f))) (fun q => q = A ∨ q = B)) 0 0 (fun q => q = A ∨ q = B) := by
  refine kk_start (by decide) (Nat.le_of_ble_eq_true rfl) ?_
  intro p e s m below meth c S hr hlk hin hB ls hl
  obtain ⟨hK, hf, hg⟩ := hB
  have hx := S.1
  have hb := S.2.1
  have hts := S.2.2.2.2
  have hS : va_S (fun q => q = A ∨ q = B) s.heap s.heap [] := va_S.rf
  have hl : lv_has ls 2 [(0, .ref A), (1, .ref B)] := hl
  have hP : va_P D cC [(A, .inl (cI, n, .inl f)), (B, .inl (cI, n, .inl g))] s.heap := fun k q hq => by
    match k, hq with
    | 0, hq => cases hq; exact hf
    | 1, hq => cases hq; exact hg
    | k + 2, hq => simp at hq
  have hD : va_D (fun q => q = A ∨ q = B) [(A, (.inl (cI, n, .inl f) : va_E)), (B, .inl (cI, n, .inl g))] := ⟨fun i j p q h1 h2 h => by
      match i, j, h1, h2 with
      | 0, 0, _, _ => rfl
      | 1, 1, _, _ => rfl
      | 0, 1, h1, h2 => cases h1; cases h2; exact absurd h hAB
      | 1, 0, h1, h2 => cases h1; cases h2; exact absurd h.symm hAB
      | i + 2, _, h1, _ => simp at h1
      | 0, j + 2, _, h2 => simp at h2
      | 1, j + 2, _, h2 => simp at h2, fun k q hq => by
      match k, hq with
      | 0, hq => cases hq; exact Or.inl rfl
      | 1, hq => cases hq; exact Or.inr rfl
      | k + 2, hq => simp at hq⟩
  refine lv_aload_n hx hb dX4_copy_0 rfl (lv_at hl 0 rfl) ?_
  refine lv_iconst (v := 0) hx hb dX4_copy_1 (by decide) ?_
  refine lv_aload_n hx hb dX4_copy_2 rfl (lv_at hl 1 rfl) ?_
  refine lv_iconst (v := 0) hx hb dX4_copy_3 (by decide) ?_
  refine lv_aload_n hx hb dX4_copy_4 rfl (lv_at hl 1 rfl) ?_
  refine va_alen (v := nI n) hx hb hK hP 1 0 rfl rfl rfl dX4_copy_5 ?_
  have hc : (nI n).toNatClampNeg = n := nI_clamp hn
  refine va_copyi hx hb (S.2.2.1.trans hl.1.symm) S.2.2.2.1 (hts _ q817) (hts _ q819) (hts _ q818) (hts _ q120) hK hP hD hS 0 1 0 0 (ty := .int) rfl rfl rfl rfl rfl (by decide) (by decide) (nI_pos hn) (by rw [hc]; show 0 + n ≤ n; omega) (by rw [hc]; show 0 + n ≤ n; omega) (fun i _ => rfl) (Nat.le_of_ble_eq_true rfl) (Nat.le_of_ble_eq_true rfl) dX4_copy_6 (fun H locs hP hD hS => ?_)
  rw [hc] at hP
  refine kk_vretW S hr hlk hS ⟨hP 0 _ rfl, ?_⟩ dX4_copy_9
  have h1 : H[B]? = some (vp_cell cI (n, .inl (va_cpy f g 0 0 n))) := hP 1 _ rfl
  rw [h1]
  exact congrArg some (cell_congr fun j hj => by unfold va_cpy; rw [if_pos (by omega)]; congr 1; omega)

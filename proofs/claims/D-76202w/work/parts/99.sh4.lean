/-! COMPONENT: sheets written and copied -/
theorem fit_byte (z : Int32) : fits .byte (.int z.toInt8.toInt32) = true := by
  have h1 : (z.toInt8.toInt32).toInt = z.toInt8.toInt := Int8.toInt_toInt32 _
  have h2 := z.toInt8.toInt_lt
  have h3 := z.toInt8.le_toInt
  have e1 : (-128 : Int32).toInt = -128 := by decide
  have e2 : (127 : Int32).toInt = 127 := by decide
  simp only [fits, Bool.and_eq_true, decide_eq_true_eq]
  rw [Int32.le_iff_toInt_le, Int32.le_iff_toInt_le, h1, e1, e2]
  omega
theorem fit_short (z : Int32) : fits .short (.int z.toInt16.toInt32) = true := by
  have h1 : (z.toInt16.toInt32).toInt = z.toInt16.toInt := Int16.toInt_toInt32 _
  have h2 := z.toInt16.toInt_lt
  have h3 := z.toInt16.le_toInt
  have e1 : (-32768 : Int32).toInt = -32768 := by decide
  have e2 : (32767 : Int32).toInt = 32767 := by decide
  simp only [fits, Bool.and_eq_true, decide_eq_true_eq]
  rw [Int32.le_iff_toInt_le, Int32.le_iff_toInt_le, h1, e1, e2]
  omega
theorem cX.mv {t : CT} {r : Rw} {x : Nat → Rw} {H H1 : Heap} (h : cX t r x H) (e : ∀ q, cA t q → H1[q]? = H[q]?) : cX t r x H1 :=
  h.upd (fun _ _ => False) (fun _ _ _ _ hf => hf.elim) (fun b j hb hj _ => ⟨rfl, e _ (cA.at t b hb hj)⟩)
theorem va_S.as {t : CT} {H0 H : Heap} {locs : List Loc} (h : va_S (cA t) H0 H locs) : va_S (cAS t) H0 H locs := ⟨h.1, fun q h1 h2 => h.2.1 q h1 (fun z => h2 (Or.inl z)), fun q hq => Or.inl (h.2.2 q hq)⟩
theorem cSh.set {t : CT} {y y' : Nat → Rw} {H H1 : Heap} (h : cSh t y H) {v a : Nat} (hv : v < 4) (hg : cG t v = some a) (e1 : ∀ k a', k < 4 → k ≠ v → cG t k = some a' → H1[a']? = H[a']?) (hrow : cAr t y' v a H1) (h6 : y' 6 = y 6) (h7 : y' 7 = y 7) (h8 : ∀ k i, k < 4 → i < 40 → k ≠ v → y' 8 (40 * k + i) = y 8 (40 * k + i)) : cSh t y' H1 := by
  refine ⟨fun k hk => ?_, h.2⟩
  by_cases hkv : k = v
  · subst hkv
    exact Or.inr ⟨a, hg, hrow⟩
  · rcases h.1 k hk with ⟨q1, q2⟩ | ⟨a', q1, q2⟩
    · exact Or.inl ⟨q1, by rw [h6]; exact q2⟩
    · obtain ⟨z1, n, z2, z3, z4⟩ := q2.mv (e1 k a' hk hkv q1)
      have hc : ∀ ci, vp_cell (t.2.2 ci) (n, .inl (fun i => y 8 (40 * k + i))) = vp_cell (t.2.2 ci) (n, .inl (fun i => y' 8 (40 * k + i))) := fun ci => cell_congr fun j hj => (h8 k j hk (by omega) hkv).symm
      refine Or.inr ⟨a', q1, z1, n, z2, by rw [h7]; exact z3, ?_⟩
      rcases z4 with z | z | z
      · exact Or.inl ⟨by rw [h6]; exact z.1, by rw [← hc]; exact z.2.1, fun i hi => by rw [h8 k i hk (by omega) hkv]; exact z.2.2 i hi⟩
      · exact Or.inr (Or.inl ⟨by rw [h6]; exact z.1, by rw [← hc]; exact z.2.1, fun i hi => by rw [h8 k i hk (by omega) hkv]; exact z.2.2 i hi⟩)
      · exact Or.inr (Or.inr ⟨by rw [h6]; exact z.1, by rw [← hc]; exact z.2.1, fun i hi => by rw [h8 k i hk (by omega) hkv]; exact z.2.2 i hi⟩)
theorem cp_lt {a b n : Nat} (hab : a < b) {f : Rw} : ∀ j k h, k + j = n → (∀ q, h q = if b + (n - k) ≤ q ∧ q < b + n then f (a + (q - b)) else f q) → ∀ q, lp (p_cpf a b n) j k h q = if b ≤ q ∧ q < b + n then f (a + (q - b)) else f q := by
  intro j
  induction j with
  | zero =>
    intro k h hk hh q
    rw [lp, hh q, show n - k = 0 by omega, Nat.add_zero]
  | succ j ih =>
    intro k h hk hh q
    rw [lp]
    refine ih (k + 1) _ (by omega) (fun q => ?_) q
    unfold p_cpf
    rw [if_pos hab]
    unfold upd
    by_cases hq : q = b + (n - 1 - k)
    · rw [if_pos hq, hh, if_neg (by omega), if_pos (by omega), show q - b = n - 1 - k by omega]
    · rw [if_neg hq, hh]
      by_cases h1 : b + (n - k) ≤ q ∧ q < b + n
      · rw [if_pos h1, if_pos (by omega)]
      · rw [if_neg h1, if_neg (by omega)]
theorem cp_ge {a b n : Nat} (hab : ¬ a < b) {f : Rw} : ∀ j k h, k + j = n → (∀ q, h q = if b ≤ q ∧ q < b + k then f (a + (q - b)) else f q) → ∀ q, lp (p_cpf a b n) j k h q = if b ≤ q ∧ q < b + n then f (a + (q - b)) else f q := by
  intro j
  induction j with
  | zero =>
    intro k h hk hh q
    rw [lp, hh q, show k = n by omega]
  | succ j ih =>
    intro k h hk hh q
    rw [lp]
    refine ih (k + 1) _ (by omega) (fun q => ?_) q
    unfold p_cpf
    rw [if_neg hab]
    unfold upd
    by_cases hq : q = b + k
    · rw [if_pos hq, hh, if_neg (by omega), if_pos (by omega), show q - b = k by omega]
    · rw [if_neg hq, hh]
      by_cases h1 : b ≤ q ∧ q < b + k
      · rw [if_pos h1, if_pos (by omega)]
      · rw [if_neg h1, if_neg (by omega)]
theorem p_cp_at (f : Rw) (a b n q : Nat) : p_cp f a b n q = if b ≤ q ∧ q < b + n then f (a + (q - b)) else f q := by
  unfold p_cp
  by_cases hab : a < b
  · exact cp_lt hab n 0 f (by omega) (fun q => by rw [if_neg (by omega)]) q
  · exact cp_ge hab n 0 f (by omega) (fun q => by rw [if_neg (by omega)]) q
section CC
variable {p : Program} {l : Launch} {e : Env} {R : Room} {s : State} {m : MethodId} {args : Array Value} {below : List Frame} {meth : Method} {c : Code} {H H0 : Heap} {locs : List Loc} {cells slots : Nat} {Q : State → Prop}
variable {cc : ByteArray} {pc nL : Nat} {ls : Array Slot} {rest : List Value} {t : CT} {r : Rw} {x : Nat → Rw} {y : Nat → Rw}
theorem sh_put8 (hQ : cSh t y H) {v a n i : Nat} {u w : Int32} (hv : v < 4) (hg : cG t v = some a) (har : cRw t y v a n H 8 2 .byte) (hna : ¬ cA t a) (hn : n ≤ 40) (h7 : y 7 v = nI n) (hi : i < n) (hu : (vp_nar .byte u) = p_nar (y 6 v) w) (hfit : fits .byte (.int (vp_nar .byte u)) = true) {H1 : Heap} (he : H1[a]? = some (vp_cell (t.2.2 2) (n, .inl (upd (fun i => y 8 (40 * v + i)) i (vp_nar .byte u))))) (oq : ∀ q : Nat, q ≠ a → H1[q]? = H[q]?) : cSh t (va_up y 8 (upd (y 8) (40 * v + i) (p_nar (y 6 v) w))) H1 := by
  have ey : ∀ j, va_up y 8 (upd (y 8) (40 * v + i) (p_nar (y 6 v) w)) 8 (40 * v + j) = upd (fun i => y 8 (40 * v + i)) i (vp_nar .byte u) j := fun j => by
    show upd (y 8) (40 * v + i) _ (40 * v + j) = _
    unfold upd
    by_cases hj : j = i
    · rw [if_pos (by omega), if_pos hj, hu]
    · rw [if_neg (by omega), if_neg hj]
  refine hQ.set hv hg (fun k a' hk hkv hga => oq a' (fun e => hkv (hQ.2 k v a hk hv (e ▸ hga) hg))) ⟨hna, n, hn, h7, Or.inl ⟨har.1, ?_, fun j hj => ?_⟩⟩ rfl rfl (fun k j hk hj hkv => ?_)
  · rw [he]
    exact congrArg some (cell_congr fun j _ => (ey j).symm)
  · rw [ey]
    unfold upd
    by_cases hj' : j = i
    · rw [if_pos hj']; exact hfit
    · rw [if_neg hj']; exact har.2.2 j hj
  · show upd (y 8) (40 * v + i) _ (40 * k + j) = _
    unfold upd
    rw [if_neg (by omega)]
theorem sl_cp8 (S : CallFix p m c cc nL s args lw_all RX0) (hK : cK t s) (hP : cX t r x s.heap) (hQ : cSh t y s.heap) {v u a a1 n1 n2 f g n : Nat} (hv : v < 4) (hg : cG t v = some a) (hu : u < 4) (hgu : cG t u = some a1) (har : cRw t y v a n1 s.heap 8 2 .byte) (hac : cRw t y u a1 n2 s.heap 8 2 .byte) (hn1 : n1 ≤ 40) (hn2 : n2 ≤ 40) (h17 : y 7 v = nI n1) (h27 : y 7 u = nI n2) (hf1 : f + n ≤ n1) (hf2 : g + n ≤ n2)
    (hframes : 1 ≤ R.frames) (hlocals : (rest.map fun v => v.category).sum + (nativeFrameWords "java/lang/System" "arraycopy" 5 + 11) ≤ R.locals) (hsz : ls.size = nL) (hdg : decode cc pc = .ok (.invokestatic 384, 3))
    (kk : ∀ (H1 : Heap) (locs1 : List Loc), cX t r x H1 → cSh t (va_up y 8 (p_cp (y 8) (40 * v + f) (40 * u + g) n)) H1 → va_S (cAS t) s.heap H1 locs1 → W p l e R s m args below meth c H1 locs1 cells slots Q (F0 m (pc + 3) ls rest)) : W p l e R s m args below meth c s.heap [] cells slots Q (F0 m pc ls (.int (nI n) :: .int (nI g) :: .ref a1 :: .int (nI f) :: .ref a :: rest)) := by
  have hcf : (nI f).toNatClampNeg = f := nI_clamp (by omega)
  have hcg : (nI g).toNatClampNeg = g := nI_clamp (by omega)
  have hcn : (nI n).toNatClampNeg = n := nI_clamp (by omega)
  have hna := (hQ.row hv hg).1
  have hna1 := (hQ.row hu hgu).1
  have ey : ∀ k j, va_up y 8 (p_cp (y 8) (40 * v + f) (40 * u + g) n) 8 (40 * k + j) = if 40 * u + g ≤ 40 * k + j ∧ 40 * k + j < 40 * u + g + n then y 8 (40 * v + f + (40 * k + j - (40 * u + g))) else y 8 (40 * k + j) := fun k j => p_cp_at _ _ _ _ _
  have fin : ∀ (H1 : Heap) (locs1 : List Loc), H1[a1]? = some (vp_cell (t.2.2 2) (n2, .inl (va_cpy (fun i => y 8 (40 * v + i)) (fun i => y 8 (40 * u + i)) f g n))) → (a ≠ a1 → H1[a]? = s.heap[a]?) → va_S (fun q => q = a ∨ q = a1) s.heap H1 locs1 → W p l e R s m args below meth c H1 locs1 cells slots Q (F0 m (pc + 3) ls rest) := by
    intro H1 locs1 he hne hS
    refine kk H1 locs1 (hP.mv fun q hq => ?_) ?_ ⟨hS.1, fun q h1 h2 => hS.2.1 q h1 (fun z => h2 (z.elim (fun e => Or.inr ⟨v, hv, e ▸ hg⟩) (fun e => Or.inr ⟨u, hu, e ▸ hgu⟩))), fun q hq => (hS.2.2 q hq).elim (fun e => Or.inr ⟨v, hv, e ▸ hg⟩) (fun e => Or.inr ⟨u, hu, e ▸ hgu⟩)⟩
    · obtain ⟨b, j, hb, hj, rfl⟩ := hq
      have hlt := (hP b j hb hj).lt
      exact hS.2.1 _ hlt (fun z => z.elim (fun e => hna (e ▸ cA.at t b hb hj)) (fun e => hna1 (e ▸ cA.at t b hb hj)))
    · refine hQ.set hu hgu (fun k a' hk hkv hga => ?_) ⟨hna1, n2, hn2, h27, Or.inl ⟨hac.1, ?_, fun j hj => ?_⟩⟩ rfl rfl (fun k j hk hj hkv => ?_)
      · have hlt := (hQ.row hk hga).lt
        by_cases e : a' = a
        · subst e
          exact hne (fun e1 => hkv (hQ.2 k u a' hk hu hga (e1 ▸ hgu)))
        · exact hS.2.1 a' hlt (fun z => z.elim e (fun e1 => hkv (hQ.2 k u a' hk hu hga (e1 ▸ hgu))))
      · rw [he]
        refine congrArg some (cell_congr fun j hj => ?_)
        rw [ey]
        unfold va_cpy
        by_cases h : g ≤ j ∧ j < g + n
        · rw [if_pos h, if_pos (by omega)]; exact congrArg (y 8) (by omega)
        · rw [if_neg h, if_neg (by omega)]
      · rw [ey]
        by_cases h : 40 * u + g ≤ 40 * u + j ∧ 40 * u + j < 40 * u + g + n
        · rw [if_pos h, show 40 * v + f + (40 * u + j - (40 * u + g)) = 40 * v + (f + (j - g)) by omega]
          exact har.2.2 _ (by omega)
        · rw [if_neg h]; exact hac.2.2 j hj
      · rw [ey, if_neg (by omega)]
  by_cases hvu : v = u
  · subst hvu
    have e1 : a = a1 := Option.some.inj (hg.symm.trans hgu)
    subst e1
    have e2 : n2 = n1 := (nI_eq (by omega) (by omega)).mp (h27.symm.trans h17)
    subst e2
    have hW : va_P t.1 cC [(a, .inl (t.2.2 2, n2, .inl (fun i => y 8 (40 * v + i))))] s.heap := co_P1 har.2.1
    refine va_copyi S.1 S.2.1 (S.2.2.1.trans hsz.symm) S.2.2.2.1 (S.2.2.2.2 _ q1192) (S.2.2.2.2 _ q819) (S.2.2.2.2 _ q818) (S.2.2.2.2 _ q120) hK.1 hW (A := fun q => q = a ∨ q = a) (H0 := s.heap) ⟨fun i j p q h1 h2 _ => by
      match i, j, h1, h2 with
      | 0, 0, _, _ => rfl
      | 0, j + 1, _, h2 => simp at h2
      | i + 1, _, h1, _ => simp at h1, fun k q hq => by
      match k, hq with
      | 0, hq => cases hq; exact Or.inl rfl
      | k + 1, hq => simp at hq⟩ va_S.rf 0 0 2 2 (ty := .byte) rfl rfl rfl rfl rfl (nI_pos (by omega)) (nI_pos (by omega)) (nI_pos (by omega)) (by rw [hcf, hcn]; exact hf1) (by rw [hcg, hcn]; exact hf2) (fun i hi => by rw [hcn] at hi; rw [hcf]; exact har.2.2 _ (by omega)) hframes hlocals hdg (fun H locs hP1 hD hS => ?_)
    rw [hcf, hcg, hcn] at hP1
    exact fin H locs (hP1 0 _ rfl) (fun z => absurd rfl z) hS
  · have hne : a ≠ a1 := fun e => hvu (hQ.2 v u a hv hu hg (e ▸ hgu))
    have hW : va_P t.1 cC [(a, .inl (t.2.2 2, n1, .inl (fun i => y 8 (40 * v + i)))), (a1, .inl (t.2.2 2, n2, .inl (fun i => y 8 (40 * u + i))))] s.heap := fun k q hq => by
      match k, hq with
      | 0, hq => cases hq; exact har.2.1
      | 1, hq => cases hq; exact hac.2.1
      | k + 2, hq => simp at hq
    refine va_copyi S.1 S.2.1 (S.2.2.1.trans hsz.symm) S.2.2.2.1 (S.2.2.2.2 _ q1192) (S.2.2.2.2 _ q819) (S.2.2.2.2 _ q818) (S.2.2.2.2 _ q120) hK.1 hW (A := fun q => q = a ∨ q = a1) (H0 := s.heap) ⟨fun i j p q h1 h2 e => by
      match i, j, h1, h2 with
      | 0, 0, _, _ => rfl
      | 1, 1, _, _ => rfl
      | 0, 1, h1, h2 => cases h1; cases h2; exact absurd e hne
      | 1, 0, h1, h2 => cases h1; cases h2; exact absurd e.symm hne
      | i + 2, _, h1, _ => simp at h1
      | 0, j + 2, _, h2 => simp at h2
      | 1, j + 2, _, h2 => simp at h2, fun k q hq => by
      match k, hq with
      | 0, hq => cases hq; exact Or.inl rfl
      | 1, hq => cases hq; exact Or.inr rfl
      | k + 2, hq => simp at hq⟩ va_S.rf 0 1 2 2 (ty := .byte) rfl rfl rfl rfl rfl (nI_pos (by omega)) (nI_pos (by omega)) (nI_pos (by omega)) (by rw [hcf, hcn]; exact hf1) (by rw [hcg, hcn]; exact hf2) (fun i hi => by rw [hcn] at hi; rw [hcf]; exact har.2.2 _ (by omega)) hframes hlocals hdg (fun H locs hP1 hD hS => ?_)
    rw [hcf, hcg, hcn] at hP1
    exact fin H locs (hP1 1 _ rfl) (fun _ => (hP1 0 _ rfl).trans har.2.1.symm) hS
theorem sh_put16 (hQ : cSh t y H) {v a n i : Nat} {u w : Int32} (hv : v < 4) (hg : cG t v = some a) (har : cRw t y v a n H 16 4 .short) (hna : ¬ cA t a) (hn : n ≤ 40) (h7 : y 7 v = nI n) (hi : i < n) (hu : (vp_nar .short u) = p_nar (y 6 v) w) (hfit : fits .short (.int (vp_nar .short u)) = true) {H1 : Heap} (he : H1[a]? = some (vp_cell (t.2.2 4) (n, .inl (upd (fun i => y 8 (40 * v + i)) i (vp_nar .short u))))) (oq : ∀ q : Nat, q ≠ a → H1[q]? = H[q]?) : cSh t (va_up y 8 (upd (y 8) (40 * v + i) (p_nar (y 6 v) w))) H1 := by
  have ey : ∀ j, va_up y 8 (upd (y 8) (40 * v + i) (p_nar (y 6 v) w)) 8 (40 * v + j) = upd (fun i => y 8 (40 * v + i)) i (vp_nar .short u) j := fun j => by
    show upd (y 8) (40 * v + i) _ (40 * v + j) = _
    unfold upd
    by_cases hj : j = i
    · rw [if_pos (by omega), if_pos hj, hu]
    · rw [if_neg (by omega), if_neg hj]
  refine hQ.set hv hg (fun k a' hk hkv hga => oq a' (fun e => hkv (hQ.2 k v a hk hv (e ▸ hga) hg))) ⟨hna, n, hn, h7, Or.inr (Or.inl ⟨har.1, ?_, fun j hj => ?_⟩)⟩ rfl rfl (fun k j hk hj hkv => ?_)
  · rw [he]
    exact congrArg some (cell_congr fun j _ => (ey j).symm)
  · rw [ey]
    unfold upd
    by_cases hj' : j = i
    · rw [if_pos hj']; exact hfit
    · rw [if_neg hj']; exact har.2.2 j hj
  · show upd (y 8) (40 * v + i) _ (40 * k + j) = _
    unfold upd
    rw [if_neg (by omega)]
theorem sl_cp16 (S : CallFix p m c cc nL s args lw_all RX0) (hK : cK t s) (hP : cX t r x s.heap) (hQ : cSh t y s.heap) {v u a a1 n1 n2 f g n : Nat} (hv : v < 4) (hg : cG t v = some a) (hu : u < 4) (hgu : cG t u = some a1) (har : cRw t y v a n1 s.heap 16 4 .short) (hac : cRw t y u a1 n2 s.heap 16 4 .short) (hn1 : n1 ≤ 40) (hn2 : n2 ≤ 40) (h17 : y 7 v = nI n1) (h27 : y 7 u = nI n2) (hf1 : f + n ≤ n1) (hf2 : g + n ≤ n2)
    (hframes : 1 ≤ R.frames) (hlocals : (rest.map fun v => v.category).sum + (nativeFrameWords "java/lang/System" "arraycopy" 5 + 11) ≤ R.locals) (hsz : ls.size = nL) (hdg : decode cc pc = .ok (.invokestatic 384, 3))
    (kk : ∀ (H1 : Heap) (locs1 : List Loc), cX t r x H1 → cSh t (va_up y 8 (p_cp (y 8) (40 * v + f) (40 * u + g) n)) H1 → va_S (cAS t) s.heap H1 locs1 → W p l e R s m args below meth c H1 locs1 cells slots Q (F0 m (pc + 3) ls rest)) : W p l e R s m args below meth c s.heap [] cells slots Q (F0 m pc ls (.int (nI n) :: .int (nI g) :: .ref a1 :: .int (nI f) :: .ref a :: rest)) := by
  have hcf : (nI f).toNatClampNeg = f := nI_clamp (by omega)
  have hcg : (nI g).toNatClampNeg = g := nI_clamp (by omega)
  have hcn : (nI n).toNatClampNeg = n := nI_clamp (by omega)
  have hna := (hQ.row hv hg).1
  have hna1 := (hQ.row hu hgu).1
  have ey : ∀ k j, va_up y 8 (p_cp (y 8) (40 * v + f) (40 * u + g) n) 8 (40 * k + j) = if 40 * u + g ≤ 40 * k + j ∧ 40 * k + j < 40 * u + g + n then y 8 (40 * v + f + (40 * k + j - (40 * u + g))) else y 8 (40 * k + j) := fun k j => p_cp_at _ _ _ _ _
  have fin : ∀ (H1 : Heap) (locs1 : List Loc), H1[a1]? = some (vp_cell (t.2.2 4) (n2, .inl (va_cpy (fun i => y 8 (40 * v + i)) (fun i => y 8 (40 * u + i)) f g n))) → (a ≠ a1 → H1[a]? = s.heap[a]?) → va_S (fun q => q = a ∨ q = a1) s.heap H1 locs1 → W p l e R s m args below meth c H1 locs1 cells slots Q (F0 m (pc + 3) ls rest) := by
    intro H1 locs1 he hne hS
    refine kk H1 locs1 (hP.mv fun q hq => ?_) ?_ ⟨hS.1, fun q h1 h2 => hS.2.1 q h1 (fun z => h2 (z.elim (fun e => Or.inr ⟨v, hv, e ▸ hg⟩) (fun e => Or.inr ⟨u, hu, e ▸ hgu⟩))), fun q hq => (hS.2.2 q hq).elim (fun e => Or.inr ⟨v, hv, e ▸ hg⟩) (fun e => Or.inr ⟨u, hu, e ▸ hgu⟩)⟩
    · obtain ⟨b, j, hb, hj, rfl⟩ := hq
      have hlt := (hP b j hb hj).lt
      exact hS.2.1 _ hlt (fun z => z.elim (fun e => hna (e ▸ cA.at t b hb hj)) (fun e => hna1 (e ▸ cA.at t b hb hj)))
    · refine hQ.set hu hgu (fun k a' hk hkv hga => ?_) ⟨hna1, n2, hn2, h27, Or.inr (Or.inl ⟨hac.1, ?_, fun j hj => ?_⟩)⟩ rfl rfl (fun k j hk hj hkv => ?_)
      · have hlt := (hQ.row hk hga).lt
        by_cases e : a' = a
        · subst e
          exact hne (fun e1 => hkv (hQ.2 k u a' hk hu hga (e1 ▸ hgu)))
        · exact hS.2.1 a' hlt (fun z => z.elim e (fun e1 => hkv (hQ.2 k u a' hk hu hga (e1 ▸ hgu))))
      · rw [he]
        refine congrArg some (cell_congr fun j hj => ?_)
        rw [ey]
        unfold va_cpy
        by_cases h : g ≤ j ∧ j < g + n
        · rw [if_pos h, if_pos (by omega)]; exact congrArg (y 8) (by omega)
        · rw [if_neg h, if_neg (by omega)]
      · rw [ey]
        by_cases h : 40 * u + g ≤ 40 * u + j ∧ 40 * u + j < 40 * u + g + n
        · rw [if_pos h, show 40 * v + f + (40 * u + j - (40 * u + g)) = 40 * v + (f + (j - g)) by omega]
          exact har.2.2 _ (by omega)
        · rw [if_neg h]; exact hac.2.2 j hj
      · rw [ey, if_neg (by omega)]
  by_cases hvu : v = u
  · subst hvu
    have e1 : a = a1 := Option.some.inj (hg.symm.trans hgu)
    subst e1
    have e2 : n2 = n1 := (nI_eq (by omega) (by omega)).mp (h27.symm.trans h17)
    subst e2
    have hW : va_P t.1 cC [(a, .inl (t.2.2 4, n2, .inl (fun i => y 8 (40 * v + i))))] s.heap := co_P1 har.2.1
    refine va_copyi S.1 S.2.1 (S.2.2.1.trans hsz.symm) S.2.2.2.1 (S.2.2.2.2 _ q1192) (S.2.2.2.2 _ q819) (S.2.2.2.2 _ q818) (S.2.2.2.2 _ q120) hK.1 hW (A := fun q => q = a ∨ q = a) (H0 := s.heap) ⟨fun i j p q h1 h2 _ => by
      match i, j, h1, h2 with
      | 0, 0, _, _ => rfl
      | 0, j + 1, _, h2 => simp at h2
      | i + 1, _, h1, _ => simp at h1, fun k q hq => by
      match k, hq with
      | 0, hq => cases hq; exact Or.inl rfl
      | k + 1, hq => simp at hq⟩ va_S.rf 0 0 4 4 (ty := .short) rfl rfl rfl rfl rfl (nI_pos (by omega)) (nI_pos (by omega)) (nI_pos (by omega)) (by rw [hcf, hcn]; exact hf1) (by rw [hcg, hcn]; exact hf2) (fun i hi => by rw [hcn] at hi; rw [hcf]; exact har.2.2 _ (by omega)) hframes hlocals hdg (fun H locs hP1 hD hS => ?_)
    rw [hcf, hcg, hcn] at hP1
    exact fin H locs (hP1 0 _ rfl) (fun z => absurd rfl z) hS
  · have hne : a ≠ a1 := fun e => hvu (hQ.2 v u a hv hu hg (e ▸ hgu))
    have hW : va_P t.1 cC [(a, .inl (t.2.2 4, n1, .inl (fun i => y 8 (40 * v + i)))), (a1, .inl (t.2.2 4, n2, .inl (fun i => y 8 (40 * u + i))))] s.heap := fun k q hq => by
      match k, hq with
      | 0, hq => cases hq; exact har.2.1
      | 1, hq => cases hq; exact hac.2.1
      | k + 2, hq => simp at hq
    refine va_copyi S.1 S.2.1 (S.2.2.1.trans hsz.symm) S.2.2.2.1 (S.2.2.2.2 _ q1192) (S.2.2.2.2 _ q819) (S.2.2.2.2 _ q818) (S.2.2.2.2 _ q120) hK.1 hW (A := fun q => q = a ∨ q = a1) (H0 := s.heap) ⟨fun i j p q h1 h2 e => by
      match i, j, h1, h2 with
      | 0, 0, _, _ => rfl
      | 1, 1, _, _ => rfl
      | 0, 1, h1, h2 => cases h1; cases h2; exact absurd e hne
      | 1, 0, h1, h2 => cases h1; cases h2; exact absurd e.symm hne
      | i + 2, _, h1, _ => simp at h1
      | 0, j + 2, _, h2 => simp at h2
      | 1, j + 2, _, h2 => simp at h2, fun k q hq => by
      match k, hq with
      | 0, hq => cases hq; exact Or.inl rfl
      | 1, hq => cases hq; exact Or.inr rfl
      | k + 2, hq => simp at hq⟩ va_S.rf 0 1 4 4 (ty := .short) rfl rfl rfl rfl rfl (nI_pos (by omega)) (nI_pos (by omega)) (nI_pos (by omega)) (by rw [hcf, hcn]; exact hf1) (by rw [hcg, hcn]; exact hf2) (fun i hi => by rw [hcn] at hi; rw [hcf]; exact har.2.2 _ (by omega)) hframes hlocals hdg (fun H locs hP1 hD hS => ?_)
    rw [hcf, hcg, hcn] at hP1
    exact fin H locs (hP1 1 _ rfl) (fun _ => (hP1 0 _ rfl).trans har.2.1.symm) hS
theorem sh_put32 (hQ : cSh t y H) {v a n i : Nat} {u w : Int32} (hv : v < 4) (hg : cG t v = some a) (har : cRw t y v a n H 32 0 .int) (hna : ¬ cA t a) (hn : n ≤ 40) (h7 : y 7 v = nI n) (hi : i < n) (hu : u = p_nar (y 6 v) w) (hfit : fits .int (.int u) = true) {H1 : Heap} (he : H1[a]? = some (vp_cell (t.2.2 0) (n, .inl (upd (fun i => y 8 (40 * v + i)) i u)))) (oq : ∀ q : Nat, q ≠ a → H1[q]? = H[q]?) : cSh t (va_up y 8 (upd (y 8) (40 * v + i) (p_nar (y 6 v) w))) H1 := by
  have ey : ∀ j, va_up y 8 (upd (y 8) (40 * v + i) (p_nar (y 6 v) w)) 8 (40 * v + j) = upd (fun i => y 8 (40 * v + i)) i u j := fun j => by
    show upd (y 8) (40 * v + i) _ (40 * v + j) = _
    unfold upd
    by_cases hj : j = i
    · rw [if_pos (by omega), if_pos hj, hu]
    · rw [if_neg (by omega), if_neg hj]
  refine hQ.set hv hg (fun k a' hk hkv hga => oq a' (fun e => hkv (hQ.2 k v a hk hv (e ▸ hga) hg))) ⟨hna, n, hn, h7, Or.inr (Or.inr ⟨har.1, ?_, fun j hj => ?_⟩)⟩ rfl rfl (fun k j hk hj hkv => ?_)
  · rw [he]
    exact congrArg some (cell_congr fun j _ => (ey j).symm)
  · rw [ey]
    unfold upd
    by_cases hj' : j = i
    · rw [if_pos hj']; exact hfit
    · rw [if_neg hj']; exact har.2.2 j hj
  · show upd (y 8) (40 * v + i) _ (40 * k + j) = _
    unfold upd
    rw [if_neg (by omega)]
theorem sl_cp32 (S : CallFix p m c cc nL s args lw_all RX0) (hK : cK t s) (hP : cX t r x s.heap) (hQ : cSh t y s.heap) {v u a a1 n1 n2 f g n : Nat} (hv : v < 4) (hg : cG t v = some a) (hu : u < 4) (hgu : cG t u = some a1) (har : cRw t y v a n1 s.heap 32 0 .int) (hac : cRw t y u a1 n2 s.heap 32 0 .int) (hn1 : n1 ≤ 40) (hn2 : n2 ≤ 40) (h17 : y 7 v = nI n1) (h27 : y 7 u = nI n2) (hf1 : f + n ≤ n1) (hf2 : g + n ≤ n2)
    (hframes : 1 ≤ R.frames) (hlocals : (rest.map fun v => v.category).sum + (nativeFrameWords "java/lang/System" "arraycopy" 5 + 11) ≤ R.locals) (hsz : ls.size = nL) (hdg : decode cc pc = .ok (.invokestatic 384, 3))
    (kk : ∀ (H1 : Heap) (locs1 : List Loc), cX t r x H1 → cSh t (va_up y 8 (p_cp (y 8) (40 * v + f) (40 * u + g) n)) H1 → va_S (cAS t) s.heap H1 locs1 → W p l e R s m args below meth c H1 locs1 cells slots Q (F0 m (pc + 3) ls rest)) : W p l e R s m args below meth c s.heap [] cells slots Q (F0 m pc ls (.int (nI n) :: .int (nI g) :: .ref a1 :: .int (nI f) :: .ref a :: rest)) := by
  have hcf : (nI f).toNatClampNeg = f := nI_clamp (by omega)
  have hcg : (nI g).toNatClampNeg = g := nI_clamp (by omega)
  have hcn : (nI n).toNatClampNeg = n := nI_clamp (by omega)
  have hna := (hQ.row hv hg).1
  have hna1 := (hQ.row hu hgu).1
  have ey : ∀ k j, va_up y 8 (p_cp (y 8) (40 * v + f) (40 * u + g) n) 8 (40 * k + j) = if 40 * u + g ≤ 40 * k + j ∧ 40 * k + j < 40 * u + g + n then y 8 (40 * v + f + (40 * k + j - (40 * u + g))) else y 8 (40 * k + j) := fun k j => p_cp_at _ _ _ _ _
  have fin : ∀ (H1 : Heap) (locs1 : List Loc), H1[a1]? = some (vp_cell (t.2.2 0) (n2, .inl (va_cpy (fun i => y 8 (40 * v + i)) (fun i => y 8 (40 * u + i)) f g n))) → (a ≠ a1 → H1[a]? = s.heap[a]?) → va_S (fun q => q = a ∨ q = a1) s.heap H1 locs1 → W p l e R s m args below meth c H1 locs1 cells slots Q (F0 m (pc + 3) ls rest) := by
    intro H1 locs1 he hne hS
    refine kk H1 locs1 (hP.mv fun q hq => ?_) ?_ ⟨hS.1, fun q h1 h2 => hS.2.1 q h1 (fun z => h2 (z.elim (fun e => Or.inr ⟨v, hv, e ▸ hg⟩) (fun e => Or.inr ⟨u, hu, e ▸ hgu⟩))), fun q hq => (hS.2.2 q hq).elim (fun e => Or.inr ⟨v, hv, e ▸ hg⟩) (fun e => Or.inr ⟨u, hu, e ▸ hgu⟩)⟩
    · obtain ⟨b, j, hb, hj, rfl⟩ := hq
      have hlt := (hP b j hb hj).lt
      exact hS.2.1 _ hlt (fun z => z.elim (fun e => hna (e ▸ cA.at t b hb hj)) (fun e => hna1 (e ▸ cA.at t b hb hj)))
    · refine hQ.set hu hgu (fun k a' hk hkv hga => ?_) ⟨hna1, n2, hn2, h27, Or.inr (Or.inr ⟨hac.1, ?_, fun j hj => ?_⟩)⟩ rfl rfl (fun k j hk hj hkv => ?_)
      · have hlt := (hQ.row hk hga).lt
        by_cases e : a' = a
        · subst e
          exact hne (fun e1 => hkv (hQ.2 k u a' hk hu hga (e1 ▸ hgu)))
        · exact hS.2.1 a' hlt (fun z => z.elim e (fun e1 => hkv (hQ.2 k u a' hk hu hga (e1 ▸ hgu))))
      · rw [he]
        refine congrArg some (cell_congr fun j hj => ?_)
        rw [ey]
        unfold va_cpy
        by_cases h : g ≤ j ∧ j < g + n
        · rw [if_pos h, if_pos (by omega)]; exact congrArg (y 8) (by omega)
        · rw [if_neg h, if_neg (by omega)]
      · rw [ey]
        by_cases h : 40 * u + g ≤ 40 * u + j ∧ 40 * u + j < 40 * u + g + n
        · rw [if_pos h, show 40 * v + f + (40 * u + j - (40 * u + g)) = 40 * v + (f + (j - g)) by omega]
          exact har.2.2 _ (by omega)
        · rw [if_neg h]; exact hac.2.2 j hj
      · rw [ey, if_neg (by omega)]
  by_cases hvu : v = u
  · subst hvu
    have e1 : a = a1 := Option.some.inj (hg.symm.trans hgu)
    subst e1
    have e2 : n2 = n1 := (nI_eq (by omega) (by omega)).mp (h27.symm.trans h17)
    subst e2
    have hW : va_P t.1 cC [(a, .inl (t.2.2 0, n2, .inl (fun i => y 8 (40 * v + i))))] s.heap := co_P1 har.2.1
    refine va_copyi S.1 S.2.1 (S.2.2.1.trans hsz.symm) S.2.2.2.1 (S.2.2.2.2 _ q1192) (S.2.2.2.2 _ q819) (S.2.2.2.2 _ q818) (S.2.2.2.2 _ q120) hK.1 hW (A := fun q => q = a ∨ q = a) (H0 := s.heap) ⟨fun i j p q h1 h2 _ => by
      match i, j, h1, h2 with
      | 0, 0, _, _ => rfl
      | 0, j + 1, _, h2 => simp at h2
      | i + 1, _, h1, _ => simp at h1, fun k q hq => by
      match k, hq with
      | 0, hq => cases hq; exact Or.inl rfl
      | k + 1, hq => simp at hq⟩ va_S.rf 0 0 0 0 (ty := .int) rfl rfl rfl rfl rfl (nI_pos (by omega)) (nI_pos (by omega)) (nI_pos (by omega)) (by rw [hcf, hcn]; exact hf1) (by rw [hcg, hcn]; exact hf2) (fun i hi => by rw [hcn] at hi; rw [hcf]; exact har.2.2 _ (by omega)) hframes hlocals hdg (fun H locs hP1 hD hS => ?_)
    rw [hcf, hcg, hcn] at hP1
    exact fin H locs (hP1 0 _ rfl) (fun z => absurd rfl z) hS
  · have hne : a ≠ a1 := fun e => hvu (hQ.2 v u a hv hu hg (e ▸ hgu))
    have hW : va_P t.1 cC [(a, .inl (t.2.2 0, n1, .inl (fun i => y 8 (40 * v + i)))), (a1, .inl (t.2.2 0, n2, .inl (fun i => y 8 (40 * u + i))))] s.heap := fun k q hq => by
      match k, hq with
      | 0, hq => cases hq; exact har.2.1
      | 1, hq => cases hq; exact hac.2.1
      | k + 2, hq => simp at hq
    refine va_copyi S.1 S.2.1 (S.2.2.1.trans hsz.symm) S.2.2.2.1 (S.2.2.2.2 _ q1192) (S.2.2.2.2 _ q819) (S.2.2.2.2 _ q818) (S.2.2.2.2 _ q120) hK.1 hW (A := fun q => q = a ∨ q = a1) (H0 := s.heap) ⟨fun i j p q h1 h2 e => by
      match i, j, h1, h2 with
      | 0, 0, _, _ => rfl
      | 1, 1, _, _ => rfl
      | 0, 1, h1, h2 => cases h1; cases h2; exact absurd e hne
      | 1, 0, h1, h2 => cases h1; cases h2; exact absurd e.symm hne
      | i + 2, _, h1, _ => simp at h1
      | 0, j + 2, _, h2 => simp at h2
      | 1, j + 2, _, h2 => simp at h2, fun k q hq => by
      match k, hq with
      | 0, hq => cases hq; exact Or.inl rfl
      | 1, hq => cases hq; exact Or.inr rfl
      | k + 2, hq => simp at hq⟩ va_S.rf 0 1 0 0 (ty := .int) rfl rfl rfl rfl rfl (nI_pos (by omega)) (nI_pos (by omega)) (nI_pos (by omega)) (by rw [hcf, hcn]; exact hf1) (by rw [hcg, hcn]; exact hf2) (fun i hi => by rw [hcn] at hi; rw [hcf]; exact har.2.2 _ (by omega)) hframes hlocals hdg (fun H locs hP1 hD hS => ?_)
    rw [hcf, hcg, hcn] at hP1
    exact fin H locs (hP1 1 _ rfl) (fun _ => (hP1 0 _ rfl).trans har.2.1.symm) hS
end CC

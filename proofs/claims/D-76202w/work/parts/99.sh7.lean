/-! COMPONENT: a sheet made -/
def rmS (n : Nat) : Room := { frames := n, cells := 1, slots := 40, locals := 38 * n }
theorem rmS_ok {k n : Nat} (h : k ≤ n) : kRm (rmS n) k 0 0 := ⟨h, Nat.mul_le_mul_left 38 h, Nat.zero_le _, Nat.zero_le _⟩
theorem MQ.up {below : List Frame} {Qc : Array Value → State → Outcome → State → Prop} {a : Array Value} {s t : State} {c n c' n' : Nat} {free : Addr → Prop} (hc : c ≤ c') (hn : n ≤ n') (h : MQ below Qc a s c n free t) : MQ below Qc a s c' n' free t := by
  obtain ⟨o, h1, h2, h3, L, h4, h5⟩ := h
  exact ⟨o, h1, h2, h3, L, ⟨h4.1, h4.2.1, h4.2.2.mono hc hn⟩, h5⟩
/-- the bundle with another row in the slot of sheet k -/
def tS (t : CT) (k : Nat) (o : Option Nat) : CT := (t.1, t.2.1, fun i => if i = 10 + k then (match o with
  | none => 0
  | some a => a + 1) else t.2.2 i)
def cTo (t t' : CT) : Prop := t'.1 = t.1 ∧ t'.2.1 = t.2.1 ∧ ∀ i, i < 10 → t'.2.2 i = t.2.2 i
theorem cTo.rf (t : CT) : cTo t t := ⟨rfl, rfl, fun _ _ => rfl⟩
theorem cTo.S (t : CT) (k : Nat) (o : Option Nat) : cTo t (tS t k o) := ⟨rfl, rfl, fun i hi => if_neg (by omega)⟩
theorem cTo.tr {a b c : CT} (h : cTo a b) (k : cTo b c) : cTo a c := ⟨k.1.trans h.1, k.2.1.trans h.2.1, fun i hi => (k.2.2 i hi).trans (h.2.2 i hi)⟩
theorem cTo.K {t t' : CT} {U : State} (h : cTo t t') (hK : cK t U) : cK t' U := by
  obtain ⟨h1, h2, h3⟩ := h
  obtain ⟨k1, k2, k3⟩ := hK
  refine ⟨?_, ?_, k3⟩
  · have e : cTy t' = cTy t := by unfold cTy; rw [h3 0 (by decide), h3 1 (by decide), h3 2 (by decide), h3 3 (by decide), h3 4 (by decide)]
    rw [e, h1]
    exact k1
  · unfold cD
    rw [h2]
    exact k2
theorem cTo.A {t t' : CT} (h : cTo t t') : cA t' = cA t := by unfold cA; rw [h.2.1]
theorem cG_S (t : CT) (k : Nat) (o : Option Nat) : cG (tS t k o) k = o := by
  have e : (tS t k o).2.2 (10 + k) = (match o with
    | none => 0
    | some a => a + 1) := if_pos rfl
  unfold cG
  rw [e]
  cases o <;> rfl
theorem cG_N (t : CT) (k : Nat) (o : Option Nat) {j : Nat} (h : j ≠ k) : cG (tS t k o) j = cG t j := by
  have e : (tS t k o).2.2 (10 + j) = t.2.2 (10 + j) := if_neg (by omega)
  unfold cG
  rw [e]
theorem wE_S (t : CT) (k : Nat) (o : Option Nat) (b : Nat) (r : Rw) (j : Nat) : wE (wT (tS t k o) b) r j = wE (wT t b) r j := by
  have h0 : (tS t k o).2.2 0 = t.2.2 0 := if_neg (by omega)
  have h1 : (tS t k o).2.2 1 = t.2.2 1 := if_neg (by omega)
  match j with
  | 0 => rfl
  | 1 => simp only [wE, h0]
  | 2 => simp only [wE, h0]
  | 3 => simp only [wE, h1]; rfl
  | 4 => simp only [wE, h0]
  | j + 5 => simp only [wE, h0]
theorem cE_S (t : CT) (k : Nat) (o : Option Nat) (r : Rw) (x : Nat → Rw) : ∀ b j, b < 9 → j < cS b → ¬ (b = 8 ∧ j = k) → cE (tS t k o) r x b j = cE t r x b j := by
  have h0 : (tS t k o).2.2 0 = t.2.2 0 := if_neg (by omega)
  have h2 : (tS t k o).2.2 2 = t.2.2 2 := if_neg (by omega)
  have h3 : (tS t k o).2.2 3 = t.2.2 3 := if_neg (by omega)
  intro b j hb hj hz
  match b, hb, hj, hz with
  | 0, _, hj, _ =>
    match j, hj with
    | 0, _ => rfl
    | 1, _ => rfl
    | 2, _ => rfl
    | 3, _ => rfl
    | 4, _ => simp only [cE, cE0, h3]; rfl
    | 5, _ => simp only [cE, cE0, h3]; rfl
    | 6, _ => simp only [cE, cE0, h3]; rfl
    | 7, _ => simp only [cE, cE0, h0]
    | 8, _ => simp only [cE, cE0, h2]
    | j + 9, h => exact absurd h (by show ¬ j + 9 < 9; omega)
  | 1, _, _, _ => exact wE_S t k o 100 r j
  | 2, _, _, _ => exact wE_S t k o 200 (x 1) j
  | 3, _, _, _ => exact wE_S t k o 300 (x 3) j
  | 4, _, _, _ => exact wE_S t k o 400 (x 2) j
  | 5, _, _, _ => rfl
  | 6, _, _, _ => rfl
  | 7, _, _, _ => rfl
  | 8, _, _, hz =>
    show Sum.inr (5, [va_rf (cG (tS t k o) j)]) = Sum.inr (5, [va_rf (cG t j)])
    rw [cG_N t k o (fun e => hz ⟨rfl, e⟩)]
  | b + 9, h, _, _ => exact absurd h (by omega)
theorem cSh.re {t t' : CT} {y y' : Nat → Rw} {H H1 : Heap} (h : cSh t y H) (hto : cTo t t') {v : Nat} (hv : v < 4) (ho : ∀ k, k < 4 → k ≠ v → cG t' k = cG t k) (e1 : ∀ a, a < H.size → ¬ cA t a → H1[a]? = H[a]?)
    (hn : (cG t' v = none ∧ y' 6 v = -1) ∨ ∃ q, cG t' v = some q ∧ H.size ≤ q ∧ cAr t' y' v q H1) (h6 : ∀ k, k ≠ v → y' 6 k = y 6 k) (h7 : ∀ k, k ≠ v → y' 7 k = y 7 k) (h8 : ∀ k i, k < 4 → i < 40 → k ≠ v → y' 8 (40 * k + i) = y 8 (40 * k + i)) : cSh t' y' H1 := by
  refine ⟨fun k hk => ?_, fun k k' a hk hk' g1 g2 => ?_⟩
  · by_cases hkv : k = v
    · subst hkv
      rcases hn with hn | ⟨q, q1, -, q3⟩
      · exact Or.inl hn
      · exact Or.inr ⟨q, q1, q3⟩
    · rcases h.1 k hk with ⟨q1, q2⟩ | ⟨a', q1, q2⟩
      · exact Or.inl ⟨by rw [ho k hk hkv]; exact q1, by rw [h6 k hkv]; exact q2⟩
      · obtain ⟨z1, n, z2, z3, z4⟩ := q2.mv (e1 a' q2.lt q2.1)
        have hc : ∀ ci, ci < 10 → vp_cell (t.2.2 ci) (n, .inl (fun i => y 8 (40 * k + i))) = vp_cell (t'.2.2 ci) (n, .inl (fun i => y' 8 (40 * k + i))) := fun ci hci => by rw [hto.2.2 ci hci]; exact cell_congr fun j hj => (h8 k j hk (by omega) hkv).symm
        refine Or.inr ⟨a', by rw [ho k hk hkv]; exact q1, by rw [hto.A]; exact z1, n, z2, by rw [h7 k hkv]; exact z3, ?_⟩
        rcases z4 with z | z | z
        · exact Or.inl ⟨by rw [h6 k hkv]; exact z.1, by rw [← hc 2 (by decide)]; exact z.2.1, fun i hi => by rw [h8 k i hk (by omega) hkv]; exact z.2.2 i hi⟩
        · exact Or.inr (Or.inl ⟨by rw [h6 k hkv]; exact z.1, by rw [← hc 4 (by decide)]; exact z.2.1, fun i hi => by rw [h8 k i hk (by omega) hkv]; exact z.2.2 i hi⟩)
        · exact Or.inr (Or.inr ⟨by rw [h6 k hkv]; exact z.1, by rw [← hc 0 (by decide)]; exact z.2.1, fun i hi => by rw [h8 k i hk (by omega) hkv]; exact z.2.2 i hi⟩)
  · have old : ∀ k a, k < 4 → k ≠ v → cG t' k = some a → a < H.size := fun k a hk hkv g => by
      rw [ho k hk hkv] at g
      exact (h.row hk g).lt
    by_cases h1 : k = v
    · by_cases h2 : k' = v
      · rw [h1, h2]
      · subst h1
        rcases hn with ⟨hn, -⟩ | ⟨q, q1, q2, -⟩
        · rw [hn] at g1; cases g1
        · rw [q1] at g1; cases g1
          exact absurd (old k' _ hk' h2 g2) (by omega)
    · by_cases h2 : k' = v
      · subst h2
        rcases hn with ⟨hn, -⟩ | ⟨q, q1, q2, -⟩
        · rw [hn] at g2; cases g2
        · rw [q1] at g2; cases g2
          exact absurd (old k _ hk h1 g1) (by omega)
      · rw [ho k hk h1] at g1
        rw [ho k' hk' h2] at g2
        exact h.2 k k' a hk hk' g1 g2
def shy (y : Nat → Rw) (v w n : Int32) (o : Option Nat) : Nat → Rw := match o with
  | none => va_up (va_up (va_up y 6 (upd (y 6) v.toNatClampNeg (if w = 0 then -1 else w))) 7 (upd (y 7) v.toNatClampNeg (if w = 0 then 0 else n))) 8 (p_zz (y 8) v.toNatClampNeg)
  | some _ => y
theorem zz_at (v : Nat) : ∀ j k (f : Rw) q, lp (fun u f => upd f (40 * v + u) 0) j k f q = if 40 * v + k ≤ q ∧ q < 40 * v + (k + j) then 0 else f q := by
  intro j
  induction j with
  | zero => intro k f q; rw [lp, if_neg (by omega)]
  | succ j ih =>
    intro k f q
    rw [lp, ih]
    unfold upd
    by_cases h : 40 * v + (k + 1) ≤ q ∧ q < 40 * v + (k + 1 + j)
    · rw [if_pos h, if_pos (by omega)]
    · rw [if_neg h]
      by_cases h2 : q = 40 * v + k
      · rw [if_pos h2, if_pos (by omega)]
      · rw [if_neg h2, if_neg (by omega)]
theorem p_zz_at (f : Rw) (v q : Nat) : p_zz f v q = if 40 * v ≤ q ∧ q < 40 * v + 40 then 0 else f q := by
  unfold p_zz
  rw [zz_at]
  simp
section CC
variable {p : Program} {l : Launch} {e : Env} {R : Room} {s : State} {m : MethodId} {args : Array Value} {below : List Frame} {meth : Method} {c : Code} {H H0 : Heap} {locs : List Loc} {cells slots : Nat} {Q : State → Prop}
variable {cc : ByteArray} {pc nL : Nat} {ls : Array Slot} {rest : List Value} {t : CT} {r : Rw} {x : Nat → Rw} {y : Nat → Rw}
theorem cX.S {t : CT} {r : Rw} {x : Nat → Rw} {H H1 : Heap} {s : State} (hK : cK t s) (h : cX t r x H) (k : Nat) (hk : k < 4) (o : Option Nat) (he : va_at t.1 cC (t.2.1 (100 * 8 + k), .inr (5, [va_rf o])) H1) (oq : ∀ q : Nat, q ≠ t.2.1 (100 * 8 + k) → H1[q]? = H[q]?) : cX (tS t k o) r x H1 := by
  intro b j hb hj
  by_cases hz : b = 8 ∧ j = k
  · obtain ⟨rfl, rfl⟩ := hz
    show va_at t.1 cC (t.2.1 (100 * 8 + j), .inr (5, [va_rf (cG (tS t j o) j)])) H1
    rw [cG_S]
    exact he
  · rw [cE_S t k o r x b j hb hj hz]
    exact (h b j hb hj).kept (oq _ (fun e => hz (hK.2.1 b j 8 k hb hj (by decide) hk e)))
theorem ctp_sheets {A : Nat → Prop} (S : CallFix p m c cc nL s args lw_all RX0) (hK : cK t s) (hP : cX t r x H) (hS : va_S A H0 H locs) (hA : ∀ q, cA t q → A q) (k : Nat) (hk : k < 4) (o : Option Nat) (hdg : decode cc pc = .ok (.putfield 97, 3)) (kk : ∀ (H1 : Heap) (locs1 : List Loc), cX (tS t k o) r x H1 → (∀ q : Nat, ¬ cA t q → H1[q]? = H[q]?) → va_S A H0 H1 locs1 → W p l e R s m args below meth c H1 locs1 cells slots Q (F0 m (pc + 3) ls (rest))) : W p l e R s m args below meth c H locs cells slots Q (F0 m pc ls (va_rf o :: .ref (t.2.1 (800 + k)) :: rest)) := by
  refine co_putN S hK.1 (ci := 5) (T := TX5) rfl in_X5 tyX5 tyX5_ok nmX5 (hP 8 k (by decide) hk) hS (hA _ (cA.at t 8 (by decide) hk)) 0 (by decide) (Nat.le_of_ble_eq_true rfl) (hK.f (w := ("ThunderCasks", 97, "ThunderCasks$Slot", "thing", "Ljava/lang/Object;", "ThunderCasks")) 19 rfl args) rfl rfl (ty := .object "java/lang/Object") rfl (by cases o <;> rfl) (by cases o <;> rfl) hdg (fun H1 locs1 he oq hS => ?_)
  exact kk H1 locs1 (hP.S hK k hk o he oq) (fun q hq => oq q (fun e => hq (e ▸ cA.at t 8 (by decide) hk))) hS
theorem sh_new8 (S : CallFix p m c cc nL s args lw_all RX0) (hK : cK t s) (hP : cX t r x H) (hS : va_S (cA t) H0 H locs) {n : Nat} (hn : n ≤ 40) (hc : cells + 1 ≤ R.cells) (hs : slots + n ≤ R.slots) (hdg : decode cc pc = .ok (.newarray .byte, 2)) (kk : ∀ H1 : Heap, H1[H.size]? = some (vp_cell (t.2.2 2) (n, .inl (fun _ => 0))) → (∀ q, q < H.size → H1[q]? = H[q]?) → cX t r x H1 → va_S (cA t) H0 H1 locs → W p l e R s m args below meth c H1 locs (cells + 1) (slots + n) Q (F0 m (pc + 2) ls (va_rf (some H.size) :: rest))) : W p l e R s m args below meth c H locs cells slots Q (F0 m pc ls (.int (nI n) :: rest)) := by
  refine va_newaK (atype := .byte) S.1 S.2.1 (S.2.2.2.2 _ q269) rfl hdg rfl (nI_pos (by omega)) (nI_clamp (by omega)) (by show n * 1 ≤ _; omega) hc hs rfl fun H1 cA0 e1 z1 o1 hAr hNm => ?_
  have hcl : cA0 = t.2.2 2 := Option.some.inj (hNm.symm.trans (hK.1.2 2 _ rfl).2)
  subst hcl
  refine kk H1 e1 o1 (hP.mv fun q hq => ?_) ⟨Nat.le_trans hS.1 (by omega), fun q h1 h2 => (o1 q (Nat.lt_of_lt_of_le h1 hS.1)).trans (hS.2.1 q h1 h2), hS.2.2⟩
  obtain ⟨b, j, hb, hj, rfl⟩ := hq
  exact o1 _ (hP b j hb hj).lt
theorem sh_made8 (hP : cX t r x H) (hQ : cSh t y H) {v n : Nat} (hv : v < 4) (hn : n ≤ 40) {H1 H2 : Heap} (e1 : H1[H.size]? = some (vp_cell (t.2.2 2) (n, .inl (fun _ => 0)))) (o1 : ∀ q, q < H.size → H1[q]? = H[q]?) (o2 : ∀ q : Nat, ¬ cA t q → H2[q]? = H1[q]?) : cSh (tS t v (some H.size)) (shy y (nI v) 8 (nI n) none) H2 := by
  have hcv : (nI v).toNatClampNeg = v := nI_clamp (by omega)
  have hna : ¬ cA t H.size := fun z => by
    obtain ⟨b, j, hb, hj, e⟩ := z
    exact absurd (hP b j hb hj).lt (by rw [← e]; omega)
  have e6 : ∀ k, shy y (nI v) 8 (nI n) none 6 k = if k = v then 8 else y 6 k := fun k => by
    show upd (y 6) (nI v).toNatClampNeg _ k = _
    rw [hcv]; rfl
  have e7 : ∀ k, shy y (nI v) 8 (nI n) none 7 k = if k = v then nI n else y 7 k := fun k => by
    show upd (y 7) (nI v).toNatClampNeg _ k = _
    rw [hcv]; rfl
  have e8 : ∀ k, shy y (nI v) 8 (nI n) none 8 k = if 40 * v ≤ k ∧ k < 40 * v + 40 then 0 else y 8 k := fun k => by
    show p_zz (y 8) (nI v).toNatClampNeg k = _
    rw [hcv]; exact p_zz_at _ _ _
  refine hQ.re (cTo.S t v _) hv (fun k hk hkv => cG_N t v _ hkv) (fun a ha hna => (o2 a hna).trans (o1 a ha)) (Or.inr ⟨H.size, cG_S t v _, Nat.le_refl _, by rw [(cTo.S t v _).A]; exact hna, n, hn, by rw [e7, if_pos rfl], Or.inl ⟨by rw [e6, if_pos rfl], ?_, fun i hi => by rw [e8, if_pos (by omega)]; rfl⟩⟩) (fun k hk => by rw [e6, if_neg hk]) (fun k hk => by rw [e7, if_neg hk]) (fun k i hk hi hkv => by rw [e8, if_neg (by omega)])
  rw [o2 _ hna, e1, (cTo.S t v _).2.2 2 (by decide)]
  exact congrArg some (cell_congr fun j hj => by rw [e8, if_pos (by omega)])
theorem sh_new16 (S : CallFix p m c cc nL s args lw_all RX0) (hK : cK t s) (hP : cX t r x H) (hS : va_S (cA t) H0 H locs) {n : Nat} (hn : n ≤ 40) (hc : cells + 1 ≤ R.cells) (hs : slots + n ≤ R.slots) (hdg : decode cc pc = .ok (.newarray .short, 2)) (kk : ∀ H1 : Heap, H1[H.size]? = some (vp_cell (t.2.2 4) (n, .inl (fun _ => 0))) → (∀ q, q < H.size → H1[q]? = H[q]?) → cX t r x H1 → va_S (cA t) H0 H1 locs → W p l e R s m args below meth c H1 locs (cells + 1) (slots + n) Q (F0 m (pc + 2) ls (va_rf (some H.size) :: rest))) : W p l e R s m args below meth c H locs cells slots Q (F0 m pc ls (.int (nI n) :: rest)) := by
  refine va_newaK (atype := .short) S.1 S.2.1 (S.2.2.2.2 _ q1174) rfl hdg rfl (nI_pos (by omega)) (nI_clamp (by omega)) (by show n * 2 ≤ _; omega) hc hs rfl fun H1 cA0 e1 z1 o1 hAr hNm => ?_
  have hcl : cA0 = t.2.2 4 := Option.some.inj (hNm.symm.trans (hK.1.2 4 _ rfl).2)
  subst hcl
  refine kk H1 e1 o1 (hP.mv fun q hq => ?_) ⟨Nat.le_trans hS.1 (by omega), fun q h1 h2 => (o1 q (Nat.lt_of_lt_of_le h1 hS.1)).trans (hS.2.1 q h1 h2), hS.2.2⟩
  obtain ⟨b, j, hb, hj, rfl⟩ := hq
  exact o1 _ (hP b j hb hj).lt
theorem sh_made16 (hP : cX t r x H) (hQ : cSh t y H) {v n : Nat} (hv : v < 4) (hn : n ≤ 40) {H1 H2 : Heap} (e1 : H1[H.size]? = some (vp_cell (t.2.2 4) (n, .inl (fun _ => 0)))) (o1 : ∀ q, q < H.size → H1[q]? = H[q]?) (o2 : ∀ q : Nat, ¬ cA t q → H2[q]? = H1[q]?) : cSh (tS t v (some H.size)) (shy y (nI v) 16 (nI n) none) H2 := by
  have hcv : (nI v).toNatClampNeg = v := nI_clamp (by omega)
  have hna : ¬ cA t H.size := fun z => by
    obtain ⟨b, j, hb, hj, e⟩ := z
    exact absurd (hP b j hb hj).lt (by rw [← e]; omega)
  have e6 : ∀ k, shy y (nI v) 16 (nI n) none 6 k = if k = v then 16 else y 6 k := fun k => by
    show upd (y 6) (nI v).toNatClampNeg _ k = _
    rw [hcv]; rfl
  have e7 : ∀ k, shy y (nI v) 16 (nI n) none 7 k = if k = v then nI n else y 7 k := fun k => by
    show upd (y 7) (nI v).toNatClampNeg _ k = _
    rw [hcv]; rfl
  have e8 : ∀ k, shy y (nI v) 16 (nI n) none 8 k = if 40 * v ≤ k ∧ k < 40 * v + 40 then 0 else y 8 k := fun k => by
    show p_zz (y 8) (nI v).toNatClampNeg k = _
    rw [hcv]; exact p_zz_at _ _ _
  refine hQ.re (cTo.S t v _) hv (fun k hk hkv => cG_N t v _ hkv) (fun a ha hna => (o2 a hna).trans (o1 a ha)) (Or.inr ⟨H.size, cG_S t v _, Nat.le_refl _, by rw [(cTo.S t v _).A]; exact hna, n, hn, by rw [e7, if_pos rfl], Or.inr (Or.inl ⟨by rw [e6, if_pos rfl], ?_, fun i hi => by rw [e8, if_pos (by omega)]; rfl⟩)⟩) (fun k hk => by rw [e6, if_neg hk]) (fun k hk => by rw [e7, if_neg hk]) (fun k i hk hi hkv => by rw [e8, if_neg (by omega)])
  rw [o2 _ hna, e1, (cTo.S t v _).2.2 4 (by decide)]
  exact congrArg some (cell_congr fun j hj => by rw [e8, if_pos (by omega)])
theorem sh_new32 (S : CallFix p m c cc nL s args lw_all RX0) (hK : cK t s) (hP : cX t r x H) (hS : va_S (cA t) H0 H locs) {n : Nat} (hn : n ≤ 40) (hc : cells + 1 ≤ R.cells) (hs : slots + n ≤ R.slots) (hdg : decode cc pc = .ok (.newarray .int, 2)) (kk : ∀ H1 : Heap, H1[H.size]? = some (vp_cell (t.2.2 0) (n, .inl (fun _ => 0))) → (∀ q, q < H.size → H1[q]? = H[q]?) → cX t r x H1 → va_S (cA t) H0 H1 locs → W p l e R s m args below meth c H1 locs (cells + 1) (slots + n) Q (F0 m (pc + 2) ls (va_rf (some H.size) :: rest))) : W p l e R s m args below meth c H locs cells slots Q (F0 m pc ls (.int (nI n) :: rest)) := by
  refine va_newaK (atype := .int) S.1 S.2.1 (S.2.2.2.2 _ q270) rfl hdg rfl (nI_pos (by omega)) (nI_clamp (by omega)) (by show n * 4 ≤ _; omega) hc hs rfl fun H1 cA0 e1 z1 o1 hAr hNm => ?_
  have hcl : cA0 = t.2.2 0 := Option.some.inj (hNm.symm.trans (hK.1.2 0 _ rfl).2)
  subst hcl
  refine kk H1 e1 o1 (hP.mv fun q hq => ?_) ⟨Nat.le_trans hS.1 (by omega), fun q h1 h2 => (o1 q (Nat.lt_of_lt_of_le h1 hS.1)).trans (hS.2.1 q h1 h2), hS.2.2⟩
  obtain ⟨b, j, hb, hj, rfl⟩ := hq
  exact o1 _ (hP b j hb hj).lt
theorem sh_made32 (hP : cX t r x H) (hQ : cSh t y H) {v n : Nat} (hv : v < 4) (hn : n ≤ 40) {H1 H2 : Heap} (e1 : H1[H.size]? = some (vp_cell (t.2.2 0) (n, .inl (fun _ => 0)))) (o1 : ∀ q, q < H.size → H1[q]? = H[q]?) (o2 : ∀ q : Nat, ¬ cA t q → H2[q]? = H1[q]?) : cSh (tS t v (some H.size)) (shy y (nI v) 32 (nI n) none) H2 := by
  have hcv : (nI v).toNatClampNeg = v := nI_clamp (by omega)
  have hna : ¬ cA t H.size := fun z => by
    obtain ⟨b, j, hb, hj, e⟩ := z
    exact absurd (hP b j hb hj).lt (by rw [← e]; omega)
  have e6 : ∀ k, shy y (nI v) 32 (nI n) none 6 k = if k = v then 32 else y 6 k := fun k => by
    show upd (y 6) (nI v).toNatClampNeg _ k = _
    rw [hcv]; rfl
  have e7 : ∀ k, shy y (nI v) 32 (nI n) none 7 k = if k = v then nI n else y 7 k := fun k => by
    show upd (y 7) (nI v).toNatClampNeg _ k = _
    rw [hcv]; rfl
  have e8 : ∀ k, shy y (nI v) 32 (nI n) none 8 k = if 40 * v ≤ k ∧ k < 40 * v + 40 then 0 else y 8 k := fun k => by
    show p_zz (y 8) (nI v).toNatClampNeg k = _
    rw [hcv]; exact p_zz_at _ _ _
  refine hQ.re (cTo.S t v _) hv (fun k hk hkv => cG_N t v _ hkv) (fun a ha hna => (o2 a hna).trans (o1 a ha)) (Or.inr ⟨H.size, cG_S t v _, Nat.le_refl _, by rw [(cTo.S t v _).A]; exact hna, n, hn, by rw [e7, if_pos rfl], Or.inr (Or.inr ⟨by rw [e6, if_pos rfl], ?_, fun i hi => by rw [e8, if_pos (by omega)]; rfl⟩)⟩) (fun k hk => by rw [e6, if_neg hk]) (fun k hk => by rw [e7, if_neg hk]) (fun k i hk hi hkv => by rw [e8, if_neg (by omega)])
  rw [o2 _ hna, e1, (cTo.S t v _).2.2 0 (by decide)]
  exact congrArg some (cell_congr fun j hj => by rw [e8, if_pos (by omega)])
theorem sh_made0 (hQ : cSh t y H) {v : Nat} {n : Int32} (hv : v < 4) {H2 : Heap} (o2 : ∀ q : Nat, ¬ cA t q → H2[q]? = H[q]?) : cSh (tS t v none) (shy y (nI v) 0 n none) H2 := by
  have hcv : (nI v).toNatClampNeg = v := nI_clamp (by omega)
  have e6 : ∀ k, shy y (nI v) 0 n none 6 k = if k = v then -1 else y 6 k := fun k => by
    show upd (y 6) (nI v).toNatClampNeg _ k = _
    rw [hcv]; rfl
  have e7 : ∀ k, shy y (nI v) 0 n none 7 k = if k = v then 0 else y 7 k := fun k => by
    show upd (y 7) (nI v).toNatClampNeg _ k = _
    rw [hcv]; rfl
  have e8 : ∀ k, shy y (nI v) 0 n none 8 k = if 40 * v ≤ k ∧ k < 40 * v + 40 then 0 else y 8 k := fun k => by
    show p_zz (y 8) (nI v).toNatClampNeg k = _
    rw [hcv]; exact p_zz_at _ _ _
  exact hQ.re (cTo.S t v _) hv (fun k hk hkv => cG_N t v _ hkv) (fun a ha hna => o2 a hna) (Or.inl ⟨cG_S t v _, by rw [e6, if_pos rfl]⟩) (fun k hk => by rw [e6, if_neg hk]) (fun k hk => by rw [e7, if_neg hk]) (fun k i hk hi hkv => by rw [e8, if_neg (by omega)])
end CC

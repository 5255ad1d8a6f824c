/-! MODEL WORLD: one object (X13), nine int arrays. r: the row s; x 1: kept, x 2: before, x 3: aside, x 4: findings, x 5: tape, x 6: bitsOf, x 7: sizes, x 8: numbers, x 9: the plain fields (0 isKept, 1 taped, 2 fitting, 3 leastFit, 4 token, 5 from, 6 to, 7 value, 8 faultAt) -/
abbrev gC : List vw_C := [(RX13, TX13, 18), (RX4, TX4, 8), (RX0, TX0, 12), (RX5, TX5, 1)]
/-- a bundle: class numbers and slots, the cells' addresses, the number of int[] -/
abbrev MT : Type := va_G × (Nat → Nat) × ClassId
abbrev mF (t : MT) (x : Nat → Rw) : List Value := [.ref (t.2.1 1), .ref (t.2.1 2), .ref (t.2.1 3), .ref (t.2.1 4), .int (x 9 0), .ref (t.2.1 5), .ref (t.2.1 6), .int (x 9 1), .ref (t.2.1 7), .ref (t.2.1 8), .ref (t.2.1 9), .int (x 9 2), .int (x 9 3), .int (x 9 4), .int (x 9 5), .int (x 9 6), .int (x 9 7), .int (x 9 8)]
def mE (t : MT) (r : Rw) (x : Nat → Rw) : Nat → va_E := fun j => match j with
  | 0 => .inr (0, mF t x)
  | 1 => .inl (t.2.2, 82, .inl r)
  | 2 => .inl (t.2.2, 82, .inl (x 1))
  | 3 => .inl (t.2.2, 82, .inl (x 2))
  | 4 => .inl (t.2.2, 82, .inl (x 3))
  | 5 => .inl (t.2.2, 8, .inl (x 4))
  | 6 => .inl (t.2.2, 120, .inl (x 5))
  | 7 => .inl (t.2.2, 4, .inl (x 6))
  | 8 => .inl (t.2.2, 4, .inl (x 7))
  | _ => .inl (t.2.2, 160, .inl (x 8))
/-- the heap holds the model's cells -/
def mW (t : MT) (r : Rw) (x : Nat → Rw) (H : Heap) : Prop := ∀ j, j < 10 → va_at t.1 gC (t.2.1 j, mE t r x j) H
/-- its cells are apart; the classes are as the tables have them -/
def mK (t : MT) (U : State) : Prop := va_K t.1 gC [(t.2.2, .int)] U ∧ ∀ i j, i < 10 → j < 10 → t.2.1 i = t.2.1 j → i = j
def mA (t : MT) : Nat → Prop := fun q => ∃ j, j < 10 ∧ q = t.2.1 j
theorem mK.moved {t : MT} {u U : State} (hvm : u.vm.Alike U.vm) (h : mK t u) : mK t U := ⟨va_K.moved hvm h.1, h.2⟩
theorem mA.at (t : MT) {j : Nat} (h : j < 10) : mA t (t.2.1 j) := ⟨j, h, rfl⟩
theorem mW.set {t : MT} {r r' : Rw} {x x' : Nat → Rw} {H H1 : Heap} {s : State} (hP : mW t r x H) (hK : mK t s) {i : Nat} (hi : i < 10) (he : va_at t.1 gC (t.2.1 i, mE t r' x' i) H1) (oq : ∀ q : Nat, q ≠ t.2.1 i → H1[q]? = H[q]?) (hn : ∀ j, j < 10 → j ≠ i → mE t r' x' j = mE t r x j) : mW t r' x' H1 := by
  intro j hj
  by_cases hji : j = i
  · subst hji; exact he
  · rw [hn j hj hji]
    exact (hP j hj).kept (oq _ (fun z => hji (hK.2 j i hj hi z)))
theorem mE_up9 {t : MT} {r : Rw} {x : Nat → Rw} (f : Rw) : ∀ j, j < 10 → j ≠ 0 → mE t r (va_up x 9 f) j = mE t r x j := by
  intro j hj h0
  match j, hj, h0 with
  | 0, _, h => exact absurd rfl h
  | 1, _, _ => rfl
  | 2, _, _ => rfl
  | 3, _, _ => rfl
  | 4, _, _ => rfl
  | 5, _, _ => rfl
  | 6, _, _ => rfl
  | 7, _, _ => rfl
  | 8, _, _ => rfl
  | 9, _, _ => rfl
  | n + 10, h, _ => exact absurd h (by omega)
theorem mE_r {t : MT} {r : Rw} (r' : Rw) {x : Nat → Rw} : ∀ j, j < 10 → j ≠ 1 → mE t r' x j = mE t r x j := by
  intro j hj h0
  match j, hj, h0 with
  | 0, _, _ => rfl
  | 1, _, h => exact absurd rfl h
  | 2, _, _ => rfl
  | 3, _, _ => rfl
  | 4, _, _ => rfl
  | 5, _, _ => rfl
  | 6, _, _ => rfl
  | 7, _, _ => rfl
  | 8, _, _ => rfl
  | 9, _, _ => rfl
  | n + 10, h, _ => exact absurd h (by omega)
theorem mE_up1 {t : MT} {r : Rw} {x : Nat → Rw} (f : Rw) : ∀ j, j < 10 → j ≠ 2 → mE t r (va_up x 1 f) j = mE t r x j := by
  intro j hj h0
  match j, hj, h0 with
  | 0, _, _ => rfl
  | 1, _, _ => rfl
  | 2, _, h => exact absurd rfl h
  | 3, _, _ => rfl
  | 4, _, _ => rfl
  | 5, _, _ => rfl
  | 6, _, _ => rfl
  | 7, _, _ => rfl
  | 8, _, _ => rfl
  | 9, _, _ => rfl
  | n + 10, h, _ => exact absurd h (by omega)
theorem mE_up2 {t : MT} {r : Rw} {x : Nat → Rw} (f : Rw) : ∀ j, j < 10 → j ≠ 3 → mE t r (va_up x 2 f) j = mE t r x j := by
  intro j hj h0
  match j, hj, h0 with
  | 0, _, _ => rfl
  | 1, _, _ => rfl
  | 2, _, _ => rfl
  | 3, _, h => exact absurd rfl h
  | 4, _, _ => rfl
  | 5, _, _ => rfl
  | 6, _, _ => rfl
  | 7, _, _ => rfl
  | 8, _, _ => rfl
  | 9, _, _ => rfl
  | n + 10, h, _ => exact absurd h (by omega)
theorem mE_up3 {t : MT} {r : Rw} {x : Nat → Rw} (f : Rw) : ∀ j, j < 10 → j ≠ 4 → mE t r (va_up x 3 f) j = mE t r x j := by
  intro j hj h0
  match j, hj, h0 with
  | 0, _, _ => rfl
  | 1, _, _ => rfl
  | 2, _, _ => rfl
  | 3, _, _ => rfl
  | 4, _, h => exact absurd rfl h
  | 5, _, _ => rfl
  | 6, _, _ => rfl
  | 7, _, _ => rfl
  | 8, _, _ => rfl
  | 9, _, _ => rfl
  | n + 10, h, _ => exact absurd h (by omega)
theorem mE_up4 {t : MT} {r : Rw} {x : Nat → Rw} (f : Rw) : ∀ j, j < 10 → j ≠ 5 → mE t r (va_up x 4 f) j = mE t r x j := by
  intro j hj h0
  match j, hj, h0 with
  | 0, _, _ => rfl
  | 1, _, _ => rfl
  | 2, _, _ => rfl
  | 3, _, _ => rfl
  | 4, _, _ => rfl
  | 5, _, h => exact absurd rfl h
  | 6, _, _ => rfl
  | 7, _, _ => rfl
  | 8, _, _ => rfl
  | 9, _, _ => rfl
  | n + 10, h, _ => exact absurd h (by omega)
theorem mE_up5 {t : MT} {r : Rw} {x : Nat → Rw} (f : Rw) : ∀ j, j < 10 → j ≠ 6 → mE t r (va_up x 5 f) j = mE t r x j := by
  intro j hj h0
  match j, hj, h0 with
  | 0, _, _ => rfl
  | 1, _, _ => rfl
  | 2, _, _ => rfl
  | 3, _, _ => rfl
  | 4, _, _ => rfl
  | 5, _, _ => rfl
  | 6, _, h => exact absurd rfl h
  | 7, _, _ => rfl
  | 8, _, _ => rfl
  | 9, _, _ => rfl
  | n + 10, h, _ => exact absurd h (by omega)
theorem mE_up6 {t : MT} {r : Rw} {x : Nat → Rw} (f : Rw) : ∀ j, j < 10 → j ≠ 7 → mE t r (va_up x 6 f) j = mE t r x j := by
  intro j hj h0
  match j, hj, h0 with
  | 0, _, _ => rfl
  | 1, _, _ => rfl
  | 2, _, _ => rfl
  | 3, _, _ => rfl
  | 4, _, _ => rfl
  | 5, _, _ => rfl
  | 6, _, _ => rfl
  | 7, _, h => exact absurd rfl h
  | 8, _, _ => rfl
  | 9, _, _ => rfl
  | n + 10, h, _ => exact absurd h (by omega)
theorem mE_up7 {t : MT} {r : Rw} {x : Nat → Rw} (f : Rw) : ∀ j, j < 10 → j ≠ 8 → mE t r (va_up x 7 f) j = mE t r x j := by
  intro j hj h0
  match j, hj, h0 with
  | 0, _, _ => rfl
  | 1, _, _ => rfl
  | 2, _, _ => rfl
  | 3, _, _ => rfl
  | 4, _, _ => rfl
  | 5, _, _ => rfl
  | 6, _, _ => rfl
  | 7, _, _ => rfl
  | 8, _, h => exact absurd rfl h
  | 9, _, _ => rfl
  | n + 10, h, _ => exact absurd h (by omega)
theorem mE_up8 {t : MT} {r : Rw} {x : Nat → Rw} (f : Rw) : ∀ j, j < 10 → j ≠ 9 → mE t r (va_up x 8 f) j = mE t r x j := by
  intro j hj h0
  match j, hj, h0 with
  | 0, _, _ => rfl
  | 1, _, _ => rfl
  | 2, _, _ => rfl
  | 3, _, _ => rfl
  | 4, _, _ => rfl
  | 5, _, _ => rfl
  | 6, _, _ => rfl
  | 7, _, _ => rfl
  | 8, _, _ => rfl
  | 9, _, h => exact absurd rfl h
  | n + 10, h, _ => exact absurd h (by omega)
section MR
variable {p : Program} {l : Launch} {e : Env} {R : Room} {s : State} {m : MethodId} {args : Array Value} {below : List Frame} {meth : Method} {c : Code} {H H0 : Heap} {locs : List Loc} {cells slots : Nat} {Q : State → Prop}
variable {cc : ByteArray} {pc nL : Nat} {ls : Array Slot} {rest : List Value} {t : MT} {r : Rw} {x : Nat → Rw}
theorem mk_get (S : CallFix p m c cc nL s args lw_all RX13) (hK : mK t s) (hP : mW t r x H) (k : Nat) (hk : k < 18) {index : Nat} (hlink : (Cond.fieldLink RX13 index RX13 (TX13 k).2.1 (TX13 k).2.2.1).before args s = true) (hsame : (TX13 k).1 = RX13) {v : Value} (hv : (mF t x)[k]? = some v) (hdg : decode cc pc = .ok (.getfield index, 3))
    (kk : W p l e R s m args below meth c H locs cells slots Q (F0 m (pc + 3) ls (v :: rest))) : W p l e R s m args below meth c H locs cells slots Q (F0 m pc ls (.ref (t.2.1 0) :: rest)) := by
  have hP1 : va_P t.1 gC [(t.2.1 0, .inr (0, mF t x))] H := fun k q hq => by
    match k, hq with
    | 0, hq => cases hq; exact hP 0 (by decide)
    | k + 1, hq => simp at hq
  exact va_get (D := t.1) (ci := 0) (v := v) (C := RX13) (T := TX13) (N := 18) S.1 S.2.1 S.2.2.2.2 in_X13 S.2.2.2.1 hK.1 hP1 0 rfl rfl k hk hlink (fun y h => by rw [hsame] at h; exact h) hv hdg kk
theorem mk_put (S : CallFix p m c cc nL s args lw_all RX13) (hK : mK t s) (hP : mW t r x H) (hS : va_S (mA t) H0 H locs) (k i : Nat) (hk : k < 18) {index : Nat} (hlink : (Cond.fieldLink RX13 index RX13 (TX13 k).2.1 (TX13 k).2.2.1).before args s = true) (hsame : (TX13 k).1 = RX13) (hfin : (TX13 k).2.2.2 = false) {ty : FieldType} {v : Int32} (hd : parseFieldDescriptor (TX13 k).2.2.1 = some ty) (hn : narrow ty (.int v) = .int v) (hfit : fits ty (.int v) = true)
    (hset : (mF t x).set k (.int v) = mF t (va_up x 9 (upd (x 9) i v))) (hdg : decode cc pc = .ok (.putfield index, 3))
    (kk : ∀ (H1 : Heap) (locs1 : List Loc), mW t r (va_up x 9 (upd (x 9) i v)) H1 → va_S (mA t) H0 H1 locs1 → W p l e R s m args below meth c H1 locs1 cells slots Q (F0 m (pc + 3) ls rest)) : W p l e R s m args below meth c H locs cells slots Q (F0 m pc ls (.int v :: .ref (t.2.1 0) :: rest)) := by
  have hap := va_apart (D := t.1) (ci := 0) (own := RX13) (C := RX13) (T := TX13) (N := 18) S.2.2.2.2 in_X13 tyX13 tyX13_ok nmX13 hK.1 rfl
  obtain ⟨r0, h1, cell, q1, q2, q3, q4⟩ := hP 0 (by decide)
  have hr0 : r0 = (RX13, TX13, 18) := Option.some.inj (h1.symm.trans rfl)
  subst hr0
  obtain ⟨hSl, hfc, kC, hkC, hkind⟩ := hK.1.1 0 _ rfl
  obtain ⟨cf, kf, fi, f, hi, hsl⟩ := hSl k hk
  have hlay := S.2.2.2.2 _ (in_X13 _ (u_in_lay hk))
  unfold u_lay at hlay
  rw [if_neg (by rw [hfin]; decide)] at hlay
  have hst := (u_facts hfc hkC (u_lays S.2.2.2.2 in_X13 hk) hi).1
  have h6 := u_store hfc hkC hkind hlay hi hd hn hfit
  refine W.putK S.1 S.2.1 (f := f) ⟨S.2.2.2.1, hlink, ⟨_, _, _, by rw [hsame] at hi; exact hi⟩, hst⟩ (by rw [q2]; exact h6) q1 q3 (by rw [hsl]; exact k2_hasslot (q4 k hk)) rfl rfl hdg fun H' e1 e2 e3 => ?_
  rw [hsl] at e1 ⊢
  refine kk H' _ (hP.set hK (i := 0) (by decide) ?_ e3 (mE_up9 _)) (hS.put e2 e3 (mA.at t (by decide)))
  refine ⟨_, rfl, t_OB.to (V := updV (vp_V (mF t x)) k (.int v)) ⟨_, e1, q2, q3, t_set q4 hap hk (.int v)⟩ (fun j _ => ?_)⟩
  rw [← hset]
  exact vp_updV_set (by exact hk) (.int v) j
theorem mk_ald (S : CallFix p m c cc nL s args lw_all RX13) (hK : mK t s) (hP : mW t r x H) (j : Nat) (hj : j < 10) {n : Nat} {f : Rw} (he : mE t r x j = .inl (t.2.2, n, .inl f)) (k : Nat) (hk : k < n) (hn : n < 2 ^ 31) {i : Int32} (hi : i = nI k) (hdg : decode cc pc = .ok (.iaload, 1))
    (kk : W p l e R s m args below meth c H locs cells slots Q (F0 m (pc + 1) ls (.int (f k) :: rest))) : W p l e R s m args below meth c H locs cells slots Q (F0 m pc ls (.int i :: .ref (t.2.1 j) :: rest)) := by
  have hP1 : va_P t.1 gC [(t.2.1 j, .inl (t.2.2, n, .inl f))] H := fun k q hq => by
    match k, hq with
    | 0, hq => cases hq; have := hP j hj; rw [he] at this; exact this
    | k + 1, hq => simp at hq
  refine va_iald S.1 S.2.1 hK.1 hP1 0 0 rfl rfl (by rw [hi]; exact vp_in_nI hk hn) hdg ?_
  rw [hi, nI_clamp (by omega)]
  exact kk
theorem mk_ast (S : CallFix p m c cc nL s args lw_all RX13) (hK : mK t s) (hP : mW t r x H) (hS : va_S (mA t) H0 H locs) (j : Nat) (hj : j < 10) {n : Nat} {f : Rw} (he : mE t r x j = .inl (t.2.2, n, .inl f)) (k : Nat) (hk : k < n) (hn : n < 2 ^ 31) {i v : Int32} (hi : i = nI k) {r' : Rw} {x' : Nat → Rw} (he' : mE t r' x' j = .inl (t.2.2, n, .inl (upd f k v))) (hne : ∀ i, i < 10 → i ≠ j → mE t r' x' i = mE t r x i) (hdg : decode cc pc = .ok (.iastore, 1))
    (kk : ∀ (H1 : Heap) (locs1 : List Loc), mW t r' x' H1 → va_S (mA t) H0 H1 locs1 → W p l e R s m args below meth c H1 locs1 cells slots Q (F0 m (pc + 1) ls rest)) : W p l e R s m args below meth c H locs cells slots Q (F0 m pc ls (.int v :: .int i :: .ref (t.2.1 j) :: rest)) := by
  have ha := hP j hj
  rw [he] at ha
  refine W.iast S.1 S.2.1 (show H[t.2.1 j]? = some (vp_cell t.2.2 (n, .inl f)) from ha) ((hK.1.2 0 _ rfl).1 n (fun j => .int (f j))) (fun q => by cases q) (by show ¬ (i < 0 ∨ (arrV _ _ _).slots.size ≤ _); rw [arrV_size, hi]; exact vp_in_nI hk hn) rfl rfl hdg fun H1 e z oq => ?_
  refine kk H1 _ (hP.set hK hj ?_ oq hne) (hS.put z oq (mA.at t hj))
  rw [he']
  show H1[t.2.1 j]? = some (vp_cell _ _)
  rw [e, hi, nI_clamp (by omega), vp_cell_i, vp_cell_i, arrV_store]
  congr 2
  funext q
  by_cases hq : q = k
  · subst hq; simp [updV, upd]
  · simp [updV, upd, hq]
/-- s: load, store -/
theorem mk_lds (S : CallFix p m c cc nL s args lw_all RX13) (hK : mK t s) (hP : mW t r x H) (k : Nat) (hk : k < 82) {i : Int32} (hi : i = nI k) (hdg : decode cc pc = .ok (.iaload, 1))
    (kk : W p l e R s m args below meth c H locs cells slots Q (F0 m (pc + 1) ls (.int (r k) :: rest))) : W p l e R s m args below meth c H locs cells slots Q (F0 m pc ls (.int i :: .ref (t.2.1 1) :: rest)) := mk_ald S hK hP 1 (by decide) rfl k hk (by decide) hi hdg kk
theorem mk_sts (S : CallFix p m c cc nL s args lw_all RX13) (hK : mK t s) (hP : mW t r x H) (hS : va_S (mA t) H0 H locs) (k : Nat) (hk : k < 82) {i v : Int32} (hi : i = nI k) (hdg : decode cc pc = .ok (.iastore, 1))
    (kk : ∀ (H1 : Heap) (locs1 : List Loc), mW t (upd r k v) x H1 → va_S (mA t) H0 H1 locs1 → W p l e R s m args below meth c H1 locs1 cells slots Q (F0 m (pc + 1) ls rest)) : W p l e R s m args below meth c H locs cells slots Q (F0 m pc ls (.int v :: .int i :: .ref (t.2.1 1) :: rest)) := mk_ast S hK hP hS 1 (by decide) rfl k hk (by decide) hi rfl (mE_r _) hdg kk
theorem mk_ld1 (S : CallFix p m c cc nL s args lw_all RX13) (hK : mK t s) (hP : mW t r x H) (k : Nat) (hk : k < 82) {i : Int32} (hi : i = nI k) (hdg : decode cc pc = .ok (.iaload, 1))
    (kk : W p l e R s m args below meth c H locs cells slots Q (F0 m (pc + 1) ls (.int (x 1 k) :: rest))) : W p l e R s m args below meth c H locs cells slots Q (F0 m pc ls (.int i :: .ref (t.2.1 2) :: rest)) := mk_ald S hK hP 2 (by decide) rfl k hk (by decide) hi hdg kk
theorem mk_st1 (S : CallFix p m c cc nL s args lw_all RX13) (hK : mK t s) (hP : mW t r x H) (hS : va_S (mA t) H0 H locs) (k : Nat) (hk : k < 82) {i v : Int32} (hi : i = nI k) (hdg : decode cc pc = .ok (.iastore, 1))
    (kk : ∀ (H1 : Heap) (locs1 : List Loc), mW t r (va_up x 1 (upd (x 1) k v)) H1 → va_S (mA t) H0 H1 locs1 → W p l e R s m args below meth c H1 locs1 cells slots Q (F0 m (pc + 1) ls rest)) : W p l e R s m args below meth c H locs cells slots Q (F0 m pc ls (.int v :: .int i :: .ref (t.2.1 2) :: rest)) := mk_ast S hK hP hS 2 (by decide) rfl k hk (by decide) hi rfl (mE_up1 _) hdg kk
theorem mk_ld2 (S : CallFix p m c cc nL s args lw_all RX13) (hK : mK t s) (hP : mW t r x H) (k : Nat) (hk : k < 82) {i : Int32} (hi : i = nI k) (hdg : decode cc pc = .ok (.iaload, 1))
    (kk : W p l e R s m args below meth c H locs cells slots Q (F0 m (pc + 1) ls (.int (x 2 k) :: rest))) : W p l e R s m args below meth c H locs cells slots Q (F0 m pc ls (.int i :: .ref (t.2.1 3) :: rest)) := mk_ald S hK hP 3 (by decide) rfl k hk (by decide) hi hdg kk
theorem mk_st2 (S : CallFix p m c cc nL s args lw_all RX13) (hK : mK t s) (hP : mW t r x H) (hS : va_S (mA t) H0 H locs) (k : Nat) (hk : k < 82) {i v : Int32} (hi : i = nI k) (hdg : decode cc pc = .ok (.iastore, 1))
    (kk : ∀ (H1 : Heap) (locs1 : List Loc), mW t r (va_up x 2 (upd (x 2) k v)) H1 → va_S (mA t) H0 H1 locs1 → W p l e R s m args below meth c H1 locs1 cells slots Q (F0 m (pc + 1) ls rest)) : W p l e R s m args below meth c H locs cells slots Q (F0 m pc ls (.int v :: .int i :: .ref (t.2.1 3) :: rest)) := mk_ast S hK hP hS 3 (by decide) rfl k hk (by decide) hi rfl (mE_up2 _) hdg kk
theorem mk_ld3 (S : CallFix p m c cc nL s args lw_all RX13) (hK : mK t s) (hP : mW t r x H) (k : Nat) (hk : k < 82) {i : Int32} (hi : i = nI k) (hdg : decode cc pc = .ok (.iaload, 1))
    (kk : W p l e R s m args below meth c H locs cells slots Q (F0 m (pc + 1) ls (.int (x 3 k) :: rest))) : W p l e R s m args below meth c H locs cells slots Q (F0 m pc ls (.int i :: .ref (t.2.1 4) :: rest)) := mk_ald S hK hP 4 (by decide) rfl k hk (by decide) hi hdg kk
theorem mk_st3 (S : CallFix p m c cc nL s args lw_all RX13) (hK : mK t s) (hP : mW t r x H) (hS : va_S (mA t) H0 H locs) (k : Nat) (hk : k < 82) {i v : Int32} (hi : i = nI k) (hdg : decode cc pc = .ok (.iastore, 1))
    (kk : ∀ (H1 : Heap) (locs1 : List Loc), mW t r (va_up x 3 (upd (x 3) k v)) H1 → va_S (mA t) H0 H1 locs1 → W p l e R s m args below meth c H1 locs1 cells slots Q (F0 m (pc + 1) ls rest)) : W p l e R s m args below meth c H locs cells slots Q (F0 m pc ls (.int v :: .int i :: .ref (t.2.1 4) :: rest)) := mk_ast S hK hP hS 4 (by decide) rfl k hk (by decide) hi rfl (mE_up3 _) hdg kk
theorem mk_ld4 (S : CallFix p m c cc nL s args lw_all RX13) (hK : mK t s) (hP : mW t r x H) (k : Nat) (hk : k < 8) {i : Int32} (hi : i = nI k) (hdg : decode cc pc = .ok (.iaload, 1))
    (kk : W p l e R s m args below meth c H locs cells slots Q (F0 m (pc + 1) ls (.int (x 4 k) :: rest))) : W p l e R s m args below meth c H locs cells slots Q (F0 m pc ls (.int i :: .ref (t.2.1 5) :: rest)) := mk_ald S hK hP 5 (by decide) rfl k hk (by decide) hi hdg kk
theorem mk_st4 (S : CallFix p m c cc nL s args lw_all RX13) (hK : mK t s) (hP : mW t r x H) (hS : va_S (mA t) H0 H locs) (k : Nat) (hk : k < 8) {i v : Int32} (hi : i = nI k) (hdg : decode cc pc = .ok (.iastore, 1))
    (kk : ∀ (H1 : Heap) (locs1 : List Loc), mW t r (va_up x 4 (upd (x 4) k v)) H1 → va_S (mA t) H0 H1 locs1 → W p l e R s m args below meth c H1 locs1 cells slots Q (F0 m (pc + 1) ls rest)) : W p l e R s m args below meth c H locs cells slots Q (F0 m pc ls (.int v :: .int i :: .ref (t.2.1 5) :: rest)) := mk_ast S hK hP hS 5 (by decide) rfl k hk (by decide) hi rfl (mE_up4 _) hdg kk
theorem mk_ld5 (S : CallFix p m c cc nL s args lw_all RX13) (hK : mK t s) (hP : mW t r x H) (k : Nat) (hk : k < 120) {i : Int32} (hi : i = nI k) (hdg : decode cc pc = .ok (.iaload, 1))
    (kk : W p l e R s m args below meth c H locs cells slots Q (F0 m (pc + 1) ls (.int (x 5 k) :: rest))) : W p l e R s m args below meth c H locs cells slots Q (F0 m pc ls (.int i :: .ref (t.2.1 6) :: rest)) := mk_ald S hK hP 6 (by decide) rfl k hk (by decide) hi hdg kk
theorem mk_st5 (S : CallFix p m c cc nL s args lw_all RX13) (hK : mK t s) (hP : mW t r x H) (hS : va_S (mA t) H0 H locs) (k : Nat) (hk : k < 120) {i v : Int32} (hi : i = nI k) (hdg : decode cc pc = .ok (.iastore, 1))
    (kk : ∀ (H1 : Heap) (locs1 : List Loc), mW t r (va_up x 5 (upd (x 5) k v)) H1 → va_S (mA t) H0 H1 locs1 → W p l e R s m args below meth c H1 locs1 cells slots Q (F0 m (pc + 1) ls rest)) : W p l e R s m args below meth c H locs cells slots Q (F0 m pc ls (.int v :: .int i :: .ref (t.2.1 6) :: rest)) := mk_ast S hK hP hS 6 (by decide) rfl k hk (by decide) hi rfl (mE_up5 _) hdg kk
theorem mk_ld6 (S : CallFix p m c cc nL s args lw_all RX13) (hK : mK t s) (hP : mW t r x H) (k : Nat) (hk : k < 4) {i : Int32} (hi : i = nI k) (hdg : decode cc pc = .ok (.iaload, 1))
    (kk : W p l e R s m args below meth c H locs cells slots Q (F0 m (pc + 1) ls (.int (x 6 k) :: rest))) : W p l e R s m args below meth c H locs cells slots Q (F0 m pc ls (.int i :: .ref (t.2.1 7) :: rest)) := mk_ald S hK hP 7 (by decide) rfl k hk (by decide) hi hdg kk
theorem mk_st6 (S : CallFix p m c cc nL s args lw_all RX13) (hK : mK t s) (hP : mW t r x H) (hS : va_S (mA t) H0 H locs) (k : Nat) (hk : k < 4) {i v : Int32} (hi : i = nI k) (hdg : decode cc pc = .ok (.iastore, 1))
    (kk : ∀ (H1 : Heap) (locs1 : List Loc), mW t r (va_up x 6 (upd (x 6) k v)) H1 → va_S (mA t) H0 H1 locs1 → W p l e R s m args below meth c H1 locs1 cells slots Q (F0 m (pc + 1) ls rest)) : W p l e R s m args below meth c H locs cells slots Q (F0 m pc ls (.int v :: .int i :: .ref (t.2.1 7) :: rest)) := mk_ast S hK hP hS 7 (by decide) rfl k hk (by decide) hi rfl (mE_up6 _) hdg kk
theorem mk_ld7 (S : CallFix p m c cc nL s args lw_all RX13) (hK : mK t s) (hP : mW t r x H) (k : Nat) (hk : k < 4) {i : Int32} (hi : i = nI k) (hdg : decode cc pc = .ok (.iaload, 1))
    (kk : W p l e R s m args below meth c H locs cells slots Q (F0 m (pc + 1) ls (.int (x 7 k) :: rest))) : W p l e R s m args below meth c H locs cells slots Q (F0 m pc ls (.int i :: .ref (t.2.1 8) :: rest)) := mk_ald S hK hP 8 (by decide) rfl k hk (by decide) hi hdg kk
theorem mk_st7 (S : CallFix p m c cc nL s args lw_all RX13) (hK : mK t s) (hP : mW t r x H) (hS : va_S (mA t) H0 H locs) (k : Nat) (hk : k < 4) {i v : Int32} (hi : i = nI k) (hdg : decode cc pc = .ok (.iastore, 1))
    (kk : ∀ (H1 : Heap) (locs1 : List Loc), mW t r (va_up x 7 (upd (x 7) k v)) H1 → va_S (mA t) H0 H1 locs1 → W p l e R s m args below meth c H1 locs1 cells slots Q (F0 m (pc + 1) ls rest)) : W p l e R s m args below meth c H locs cells slots Q (F0 m pc ls (.int v :: .int i :: .ref (t.2.1 8) :: rest)) := mk_ast S hK hP hS 8 (by decide) rfl k hk (by decide) hi rfl (mE_up7 _) hdg kk
theorem mk_ld8 (S : CallFix p m c cc nL s args lw_all RX13) (hK : mK t s) (hP : mW t r x H) (k : Nat) (hk : k < 160) {i : Int32} (hi : i = nI k) (hdg : decode cc pc = .ok (.iaload, 1))
    (kk : W p l e R s m args below meth c H locs cells slots Q (F0 m (pc + 1) ls (.int (x 8 k) :: rest))) : W p l e R s m args below meth c H locs cells slots Q (F0 m pc ls (.int i :: .ref (t.2.1 9) :: rest)) := mk_ald S hK hP 9 (by decide) rfl k hk (by decide) hi hdg kk
theorem mk_st8 (S : CallFix p m c cc nL s args lw_all RX13) (hK : mK t s) (hP : mW t r x H) (hS : va_S (mA t) H0 H locs) (k : Nat) (hk : k < 160) {i v : Int32} (hi : i = nI k) (hdg : decode cc pc = .ok (.iastore, 1))
    (kk : ∀ (H1 : Heap) (locs1 : List Loc), mW t r (va_up x 8 (upd (x 8) k v)) H1 → va_S (mA t) H0 H1 locs1 → W p l e R s m args below meth c H1 locs1 cells slots Q (F0 m (pc + 1) ls rest)) : W p l e R s m args below meth c H locs cells slots Q (F0 m pc ls (.int v :: .int i :: .ref (t.2.1 9) :: rest)) := mk_ast S hK hP hS 9 (by decide) rfl k hk (by decide) hi rfl (mE_up8 _) hdg kk
theorem mg_s (S : CallFix p m c cc nL s args lw_all RX13) (hK : mK t s) (hP : mW t r x H) (hdg : decode cc pc = .ok (.getfield 7, 3))
    (kk : W p l e R s m args below meth c H locs cells slots Q (F0 m (pc + 3) ls (.ref (t.2.1 1) :: rest))) : W p l e R s m args below meth c H locs cells slots Q (F0 m pc ls (.ref (t.2.1 0) :: rest)) := mk_get S hK hP 0 (by decide) (S.2.2.2.2 _ q1235) rfl rfl hdg kk
theorem mg_kept (S : CallFix p m c cc nL s args lw_all RX13) (hK : mK t s) (hP : mW t r x H) (hdg : decode cc pc = .ok (.getfield 13, 3))
    (kk : W p l e R s m args below meth c H locs cells slots Q (F0 m (pc + 3) ls (.ref (t.2.1 2) :: rest))) : W p l e R s m args below meth c H locs cells slots Q (F0 m pc ls (.ref (t.2.1 0) :: rest)) := mk_get S hK hP 1 (by decide) (S.2.2.2.2 _ q1236) rfl rfl hdg kk
theorem mg_before (S : CallFix p m c cc nL s args lw_all RX13) (hK : mK t s) (hP : mW t r x H) (hdg : decode cc pc = .ok (.getfield 16, 3))
    (kk : W p l e R s m args below meth c H locs cells slots Q (F0 m (pc + 3) ls (.ref (t.2.1 3) :: rest))) : W p l e R s m args below meth c H locs cells slots Q (F0 m pc ls (.ref (t.2.1 0) :: rest)) := mk_get S hK hP 2 (by decide) (S.2.2.2.2 _ q1237) rfl rfl hdg kk
theorem mg_aside (S : CallFix p m c cc nL s args lw_all RX13) (hK : mK t s) (hP : mW t r x H) (hdg : decode cc pc = .ok (.getfield 19, 3))
    (kk : W p l e R s m args below meth c H locs cells slots Q (F0 m (pc + 3) ls (.ref (t.2.1 4) :: rest))) : W p l e R s m args below meth c H locs cells slots Q (F0 m pc ls (.ref (t.2.1 0) :: rest)) := mk_get S hK hP 3 (by decide) (S.2.2.2.2 _ q1238) rfl rfl hdg kk
theorem mg_isKept (S : CallFix p m c cc nL s args lw_all RX13) (hK : mK t s) (hP : mW t r x H) (hdg : decode cc pc = .ok (.getfield 287, 3))
    (kk : W p l e R s m args below meth c H locs cells slots Q (F0 m (pc + 3) ls (.int (x 9 0) :: rest))) : W p l e R s m args below meth c H locs cells slots Q (F0 m pc ls (.ref (t.2.1 0) :: rest)) := mk_get S hK hP 4 (by decide) (S.2.2.2.2 _ q1239) rfl rfl hdg kk
theorem mp_isKept (S : CallFix p m c cc nL s args lw_all RX13) (hK : mK t s) (hP : mW t r x H) (hS : va_S (mA t) H0 H locs) {v : Int32} (hn : narrow .boolean (.int v) = .int v) (hfit : fits .boolean (.int v) = true) (hdg : decode cc pc = .ok (.putfield 287, 3))
    (kk : ∀ (H1 : Heap) (locs1 : List Loc), mW t r (va_up x 9 (upd (x 9) 0 v)) H1 → va_S (mA t) H0 H1 locs1 → W p l e R s m args below meth c H1 locs1 cells slots Q (F0 m (pc + 3) ls rest)) : W p l e R s m args below meth c H locs cells slots Q (F0 m pc ls (.int v :: .ref (t.2.1 0) :: rest)) := mk_put S hK hP hS 4 0 (by decide) (S.2.2.2.2 _ q1239) rfl rfl (ty := .boolean) (by decide +kernel) hn hfit rfl hdg kk
theorem mg_findings (S : CallFix p m c cc nL s args lw_all RX13) (hK : mK t s) (hP : mW t r x H) (hdg : decode cc pc = .ok (.getfield 22, 3))
    (kk : W p l e R s m args below meth c H locs cells slots Q (F0 m (pc + 3) ls (.ref (t.2.1 5) :: rest))) : W p l e R s m args below meth c H locs cells slots Q (F0 m pc ls (.ref (t.2.1 0) :: rest)) := mk_get S hK hP 5 (by decide) (S.2.2.2.2 _ q1240) rfl rfl hdg kk
theorem mg_tape (S : CallFix p m c cc nL s args lw_all RX13) (hK : mK t s) (hP : mW t r x H) (hdg : decode cc pc = .ok (.getfield 25, 3))
    (kk : W p l e R s m args below meth c H locs cells slots Q (F0 m (pc + 3) ls (.ref (t.2.1 6) :: rest))) : W p l e R s m args below meth c H locs cells slots Q (F0 m pc ls (.ref (t.2.1 0) :: rest)) := mk_get S hK hP 6 (by decide) (S.2.2.2.2 _ q1241) rfl rfl hdg kk
theorem mg_taped (S : CallFix p m c cc nL s args lw_all RX13) (hK : mK t s) (hP : mW t r x H) (hdg : decode cc pc = .ok (.getfield 207, 3))
    (kk : W p l e R s m args below meth c H locs cells slots Q (F0 m (pc + 3) ls (.int (x 9 1) :: rest))) : W p l e R s m args below meth c H locs cells slots Q (F0 m pc ls (.ref (t.2.1 0) :: rest)) := mk_get S hK hP 7 (by decide) (S.2.2.2.2 _ q1242) rfl rfl hdg kk
theorem mp_taped (S : CallFix p m c cc nL s args lw_all RX13) (hK : mK t s) (hP : mW t r x H) (hS : va_S (mA t) H0 H locs) {v : Int32} (hdg : decode cc pc = .ok (.putfield 207, 3))
    (kk : ∀ (H1 : Heap) (locs1 : List Loc), mW t r (va_up x 9 (upd (x 9) 1 v)) H1 → va_S (mA t) H0 H1 locs1 → W p l e R s m args below meth c H1 locs1 cells slots Q (F0 m (pc + 3) ls rest)) : W p l e R s m args below meth c H locs cells slots Q (F0 m pc ls (.int v :: .ref (t.2.1 0) :: rest)) := mk_put S hK hP hS 7 1 (by decide) (S.2.2.2.2 _ q1242) rfl rfl (ty := .int) (by decide +kernel) rfl rfl rfl hdg kk
theorem mg_bitsOf (S : CallFix p m c cc nL s args lw_all RX13) (hK : mK t s) (hP : mW t r x H) (hdg : decode cc pc = .ok (.getfield 28, 3))
    (kk : W p l e R s m args below meth c H locs cells slots Q (F0 m (pc + 3) ls (.ref (t.2.1 7) :: rest))) : W p l e R s m args below meth c H locs cells slots Q (F0 m pc ls (.ref (t.2.1 0) :: rest)) := mk_get S hK hP 8 (by decide) (S.2.2.2.2 _ q1243) rfl rfl hdg kk
theorem mg_sizes (S : CallFix p m c cc nL s args lw_all RX13) (hK : mK t s) (hP : mW t r x H) (hdg : decode cc pc = .ok (.getfield 31, 3))
    (kk : W p l e R s m args below meth c H locs cells slots Q (F0 m (pc + 3) ls (.ref (t.2.1 8) :: rest))) : W p l e R s m args below meth c H locs cells slots Q (F0 m pc ls (.ref (t.2.1 0) :: rest)) := mk_get S hK hP 9 (by decide) (S.2.2.2.2 _ q1244) rfl rfl hdg kk
theorem mg_numbers (S : CallFix p m c cc nL s args lw_all RX13) (hK : mK t s) (hP : mW t r x H) (hdg : decode cc pc = .ok (.getfield 34, 3))
    (kk : W p l e R s m args below meth c H locs cells slots Q (F0 m (pc + 3) ls (.ref (t.2.1 9) :: rest))) : W p l e R s m args below meth c H locs cells slots Q (F0 m pc ls (.ref (t.2.1 0) :: rest)) := mk_get S hK hP 10 (by decide) (S.2.2.2.2 _ q1245) rfl rfl hdg kk
theorem mg_fitting (S : CallFix p m c cc nL s args lw_all RX13) (hK : mK t s) (hP : mW t r x H) (hdg : decode cc pc = .ok (.getfield 180, 3))
    (kk : W p l e R s m args below meth c H locs cells slots Q (F0 m (pc + 3) ls (.int (x 9 2) :: rest))) : W p l e R s m args below meth c H locs cells slots Q (F0 m pc ls (.ref (t.2.1 0) :: rest)) := mk_get S hK hP 11 (by decide) (S.2.2.2.2 _ q1246) rfl rfl hdg kk
theorem mp_fitting (S : CallFix p m c cc nL s args lw_all RX13) (hK : mK t s) (hP : mW t r x H) (hS : va_S (mA t) H0 H locs) {v : Int32} (hdg : decode cc pc = .ok (.putfield 180, 3))
    (kk : ∀ (H1 : Heap) (locs1 : List Loc), mW t r (va_up x 9 (upd (x 9) 2 v)) H1 → va_S (mA t) H0 H1 locs1 → W p l e R s m args below meth c H1 locs1 cells slots Q (F0 m (pc + 3) ls rest)) : W p l e R s m args below meth c H locs cells slots Q (F0 m pc ls (.int v :: .ref (t.2.1 0) :: rest)) := mk_put S hK hP hS 11 2 (by decide) (S.2.2.2.2 _ q1246) rfl rfl (ty := .int) (by decide +kernel) rfl rfl rfl hdg kk
theorem mg_leastFit (S : CallFix p m c cc nL s args lw_all RX13) (hK : mK t s) (hP : mW t r x H) (hdg : decode cc pc = .ok (.getfield 187, 3))
    (kk : W p l e R s m args below meth c H locs cells slots Q (F0 m (pc + 3) ls (.int (x 9 3) :: rest))) : W p l e R s m args below meth c H locs cells slots Q (F0 m pc ls (.ref (t.2.1 0) :: rest)) := mk_get S hK hP 12 (by decide) (S.2.2.2.2 _ q1247) rfl rfl hdg kk
theorem mp_leastFit (S : CallFix p m c cc nL s args lw_all RX13) (hK : mK t s) (hP : mW t r x H) (hS : va_S (mA t) H0 H locs) {v : Int32} (hdg : decode cc pc = .ok (.putfield 187, 3))
    (kk : ∀ (H1 : Heap) (locs1 : List Loc), mW t r (va_up x 9 (upd (x 9) 3 v)) H1 → va_S (mA t) H0 H1 locs1 → W p l e R s m args below meth c H1 locs1 cells slots Q (F0 m (pc + 3) ls rest)) : W p l e R s m args below meth c H locs cells slots Q (F0 m pc ls (.int v :: .ref (t.2.1 0) :: rest)) := mk_put S hK hP hS 12 3 (by decide) (S.2.2.2.2 _ q1247) rfl rfl (ty := .int) (by decide +kernel) rfl rfl rfl hdg kk
theorem mg_token (S : CallFix p m c cc nL s args lw_all RX13) (hK : mK t s) (hP : mW t r x H) (hdg : decode cc pc = .ok (.getfield 225, 3))
    (kk : W p l e R s m args below meth c H locs cells slots Q (F0 m (pc + 3) ls (.int (x 9 4) :: rest))) : W p l e R s m args below meth c H locs cells slots Q (F0 m pc ls (.ref (t.2.1 0) :: rest)) := mk_get S hK hP 13 (by decide) (S.2.2.2.2 _ q1248) rfl rfl hdg kk
theorem mp_token (S : CallFix p m c cc nL s args lw_all RX13) (hK : mK t s) (hP : mW t r x H) (hS : va_S (mA t) H0 H locs) {v : Int32} (hdg : decode cc pc = .ok (.putfield 225, 3))
    (kk : ∀ (H1 : Heap) (locs1 : List Loc), mW t r (va_up x 9 (upd (x 9) 4 v)) H1 → va_S (mA t) H0 H1 locs1 → W p l e R s m args below meth c H1 locs1 cells slots Q (F0 m (pc + 3) ls rest)) : W p l e R s m args below meth c H locs cells slots Q (F0 m pc ls (.int v :: .ref (t.2.1 0) :: rest)) := mk_put S hK hP hS 13 4 (by decide) (S.2.2.2.2 _ q1248) rfl rfl (ty := .int) (by decide +kernel) rfl rfl rfl hdg kk
theorem mg_from (S : CallFix p m c cc nL s args lw_all RX13) (hK : mK t s) (hP : mW t r x H) (hdg : decode cc pc = .ok (.getfield 213, 3))
    (kk : W p l e R s m args below meth c H locs cells slots Q (F0 m (pc + 3) ls (.int (x 9 5) :: rest))) : W p l e R s m args below meth c H locs cells slots Q (F0 m pc ls (.ref (t.2.1 0) :: rest)) := mk_get S hK hP 14 (by decide) (S.2.2.2.2 _ q1249) rfl rfl hdg kk
theorem mp_from (S : CallFix p m c cc nL s args lw_all RX13) (hK : mK t s) (hP : mW t r x H) (hS : va_S (mA t) H0 H locs) {v : Int32} (hdg : decode cc pc = .ok (.putfield 213, 3))
    (kk : ∀ (H1 : Heap) (locs1 : List Loc), mW t r (va_up x 9 (upd (x 9) 5 v)) H1 → va_S (mA t) H0 H1 locs1 → W p l e R s m args below meth c H1 locs1 cells slots Q (F0 m (pc + 3) ls rest)) : W p l e R s m args below meth c H locs cells slots Q (F0 m pc ls (.int v :: .ref (t.2.1 0) :: rest)) := mk_put S hK hP hS 14 5 (by decide) (S.2.2.2.2 _ q1249) rfl rfl (ty := .int) (by decide +kernel) rfl rfl rfl hdg kk
theorem mg_to (S : CallFix p m c cc nL s args lw_all RX13) (hK : mK t s) (hP : mW t r x H) (hdg : decode cc pc = .ok (.getfield 210, 3))
    (kk : W p l e R s m args below meth c H locs cells slots Q (F0 m (pc + 3) ls (.int (x 9 6) :: rest))) : W p l e R s m args below meth c H locs cells slots Q (F0 m pc ls (.ref (t.2.1 0) :: rest)) := mk_get S hK hP 15 (by decide) (S.2.2.2.2 _ q1250) rfl rfl hdg kk
theorem mp_to (S : CallFix p m c cc nL s args lw_all RX13) (hK : mK t s) (hP : mW t r x H) (hS : va_S (mA t) H0 H locs) {v : Int32} (hdg : decode cc pc = .ok (.putfield 210, 3))
    (kk : ∀ (H1 : Heap) (locs1 : List Loc), mW t r (va_up x 9 (upd (x 9) 6 v)) H1 → va_S (mA t) H0 H1 locs1 → W p l e R s m args below meth c H1 locs1 cells slots Q (F0 m (pc + 3) ls rest)) : W p l e R s m args below meth c H locs cells slots Q (F0 m pc ls (.int v :: .ref (t.2.1 0) :: rest)) := mk_put S hK hP hS 15 6 (by decide) (S.2.2.2.2 _ q1250) rfl rfl (ty := .int) (by decide +kernel) rfl rfl rfl hdg kk
theorem mg_value (S : CallFix p m c cc nL s args lw_all RX13) (hK : mK t s) (hP : mW t r x H) (hdg : decode cc pc = .ok (.getfield 228, 3))
    (kk : W p l e R s m args below meth c H locs cells slots Q (F0 m (pc + 3) ls (.int (x 9 7) :: rest))) : W p l e R s m args below meth c H locs cells slots Q (F0 m pc ls (.ref (t.2.1 0) :: rest)) := mk_get S hK hP 16 (by decide) (S.2.2.2.2 _ q1251) rfl rfl hdg kk
theorem mp_value (S : CallFix p m c cc nL s args lw_all RX13) (hK : mK t s) (hP : mW t r x H) (hS : va_S (mA t) H0 H locs) {v : Int32} (hdg : decode cc pc = .ok (.putfield 228, 3))
    (kk : ∀ (H1 : Heap) (locs1 : List Loc), mW t r (va_up x 9 (upd (x 9) 7 v)) H1 → va_S (mA t) H0 H1 locs1 → W p l e R s m args below meth c H1 locs1 cells slots Q (F0 m (pc + 3) ls rest)) : W p l e R s m args below meth c H locs cells slots Q (F0 m pc ls (.int v :: .ref (t.2.1 0) :: rest)) := mk_put S hK hP hS 16 7 (by decide) (S.2.2.2.2 _ q1251) rfl rfl (ty := .int) (by decide +kernel) rfl rfl rfl hdg kk
theorem mg_faultAt (S : CallFix p m c cc nL s args lw_all RX13) (hK : mK t s) (hP : mW t r x H) (hdg : decode cc pc = .ok (.getfield 231, 3))
    (kk : W p l e R s m args below meth c H locs cells slots Q (F0 m (pc + 3) ls (.int (x 9 8) :: rest))) : W p l e R s m args below meth c H locs cells slots Q (F0 m pc ls (.ref (t.2.1 0) :: rest)) := mk_get S hK hP 17 (by decide) (S.2.2.2.2 _ q1252) rfl rfl hdg kk
theorem mp_faultAt (S : CallFix p m c cc nL s args lw_all RX13) (hK : mK t s) (hP : mW t r x H) (hS : va_S (mA t) H0 H locs) {v : Int32} (hdg : decode cc pc = .ok (.putfield 231, 3))
    (kk : ∀ (H1 : Heap) (locs1 : List Loc), mW t r (va_up x 9 (upd (x 9) 8 v)) H1 → va_S (mA t) H0 H1 locs1 → W p l e R s m args below meth c H1 locs1 cells slots Q (F0 m (pc + 3) ls rest)) : W p l e R s m args below meth c H locs cells slots Q (F0 m pc ls (.int v :: .ref (t.2.1 0) :: rest)) := mk_put S hK hP hS 17 8 (by decide) (S.2.2.2.2 _ q1252) rfl rfl (ty := .int) (by decide +kernel) rfl rfl rfl hdg kk
end MR

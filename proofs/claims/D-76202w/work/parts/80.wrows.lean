/-! COMPONENT: a World (X4) is twelve cells: 0 the object, 1 frost, 2 list, 3 cask (the outer row), 4 holds, 5 + w row w of cask; they hold the SAME row r of 82 numbers as the model does -/
abbrev cC : List vw_C := [(RX0, TX0, 12), (RX4, TX4, 8), (RX2, TX2, 8), (RX1, TX1, 7), (RX3, TX3, 6), (RX5, TX5, 1), (RX6, TX6, 2), (RX7, TX7, 3), (RX8, TX8, 3), (RX9, TX9, 4), (RX10, TX10, 5), (RX11, TX11, 3), (RX12, TX12, 4)]
/-- a bundle: class numbers and slots, the cells' addresses, the numbers of int[], int[][], byte[], Slot[], short[] -/
abbrev CT : Type := va_G × (Nat → Nat) × (Nat → ClassId)
abbrev cTy (t : CT) : List (ClassId × FieldType) := [(t.2.2 0, .int), (t.2.2 1, .array .int), (t.2.2 2, .byte), (t.2.2 3, .object RX5), (t.2.2 4, .short)]
abbrev wF (t : CT) (r : Rw) : List Value := [.ref (t.2.1 1), .ref (t.2.1 2), .int (r 3), .int (r 0), .ref (t.2.1 3), .int (r 1), .int (r 2), .ref (t.2.1 4)]
theorem wF_claps (t : CT) (r : Rw) (v : Int32) : (wF t r).set 2 (.int v) = wF t (upd r 3 v) := rfl
theorem wF_casks (t : CT) (r : Rw) (v : Int32) : (wF t r).set 3 (.int v) = wF t (upd r 0 v) := rfl
theorem wF_day (t : CT) (r : Rw) (v : Int32) : (wF t r).set 5 (.int v) = wF t (upd r 1 v) := rfl
theorem wF_z (t : CT) (r : Rw) (v : Int32) : (wF t r).set 6 (.int v) = wF t (upd r 2 v) := rfl
def wE (t : CT) (r : Rw) : Nat → va_E := fun j => match j with
  | 0 => .inr (1, wF t r)
  | 1 => .inl (t.2.2 0, 6, .inl (fun k => r (4 + k)))
  | 2 => .inl (t.2.2 0, 6, .inl (fun k => r (10 + k)))
  | 3 => .inl (t.2.2 1, 7, .inr (.inr (.inr (.inr (fun k => some (t.2.1 (5 + k)))))))
  | 4 => .inl (t.2.2 0, 10, .inl (fun k => r (72 + k)))
  | j + 5 => .inl (t.2.2 0, 8, .inl (fun k => r (16 + 7 * k + j)))
def wW (t : CT) (r : Rw) (H : Heap) : Prop := ∀ j, j < 12 → va_at t.1 cC (t.2.1 j, wE t r j) H
def wK (t : CT) (U : State) : Prop := va_K t.1 cC (cTy t) U ∧ ∀ i j, i < 12 → j < 12 → t.2.1 i = t.2.1 j → i = j
def wA (t : CT) : Nat → Prop := fun q => ∃ j, j < 12 ∧ q = t.2.1 j
theorem wK.moved {t : CT} {u U : State} (hvm : u.vm.Alike U.vm) (h : wK t u) : wK t U := ⟨va_K.moved hvm h.1, h.2⟩
theorem wA.at (t : CT) {j : Nat} (h : j < 12) : wA t (t.2.1 j) := ⟨j, h, rfl⟩
/-- cell j says the same of two rows -/
def w_eq (r r' : Rw) : Nat → Prop := fun j => match j with
  | 0 => r' 3 = r 3 ∧ r' 0 = r 0 ∧ r' 1 = r 1 ∧ r' 2 = r 2
  | 1 => ∀ k, k < 6 → r' (4 + k) = r (4 + k)
  | 2 => ∀ k, k < 6 → r' (10 + k) = r (10 + k)
  | 3 => True
  | 4 => ∀ k, k < 10 → r' (72 + k) = r (72 + k)
  | j + 5 => ∀ k, k < 8 → r' (16 + 7 * k + j) = r (16 + 7 * k + j)
theorem w_eq.at {t : CT} {r r' : Rw} {H : Heap} {j : Nat} (h : w_eq r r' j) (hP : va_at t.1 cC (t.2.1 j, wE t r j) H) : va_at t.1 cC (t.2.1 j, wE t r' j) H := by
  match j, h, hP with
  | 0, h, hP =>
    obtain ⟨h3, h0, h1, h2⟩ := h
    simp only [wE, wF, h3, h0, h1, h2] at hP ⊢
    exact hP
  | 1, h, hP => exact (show H[_]? = some _ from hP).trans (congrArg some (cell_congr fun k hk => (h k hk).symm))
  | 2, h, hP => exact (show H[_]? = some _ from hP).trans (congrArg some (cell_congr fun k hk => (h k hk).symm))
  | 3, _, hP => exact hP
  | 4, h, hP => exact (show H[_]? = some _ from hP).trans (congrArg some (cell_congr fun k hk => (h k hk).symm))
  | j + 5, h, hP => exact (show H[_]? = some _ from hP).trans (congrArg some (cell_congr fun k hk => (h k hk).symm))
/-- a world's row counts below 82 alone -/
theorem wW.congr {t : CT} {r r' : Rw} {H : Heap} (h : ∀ k, k < 82 → r' k = r k) (hP : wW t r H) : wW t r' H := by
  intro j hj
  refine w_eq.at ?_ (hP j hj)
  match j, hj with
  | 0, _ => exact ⟨h 3 (by decide), h 0 (by decide), h 1 (by decide), h 2 (by decide)⟩
  | 1, _ => exact fun k hk => h _ (by omega)
  | 2, _ => exact fun k hk => h _ (by omega)
  | 3, _ => trivial
  | 4, _ => exact fun k hk => h _ (by omega)
  | j + 5, hj => exact fun k hk => h _ (by omega)
/-- in which cell a place of the row lies -/
def w_pl (k : Nat) : Nat := if k < 4 then 0 else if k < 10 then 1 else if k < 16 then 2 else if k < 72 then 5 + (k - 16) % 7 else 4
theorem w_pl0 {k : Nat} (h : k < 4) : w_pl k = 0 := by unfold w_pl; rw [if_pos h]
theorem w_pl1 {k : Nat} (h : k < 6) : w_pl (4 + k) = 1 := by unfold w_pl; rw [if_neg (by omega), if_pos (by omega)]
theorem w_pl2 {k : Nat} (h : k < 6) : w_pl (10 + k) = 2 := by unfold w_pl; rw [if_neg (by omega), if_neg (by omega), if_pos (by omega)]
theorem w_pl4 {k : Nat} (h : k < 10) : w_pl (72 + k) = 4 := by unfold w_pl; rw [if_neg (by omega), if_neg (by omega), if_neg (by omega), if_neg (by omega)]
theorem w_plc {k w : Nat} (hw : w < 7) (h : k < 8) : w_pl (16 + 7 * k + w) = 5 + w := by unfold w_pl; rw [if_neg (by omega), if_neg (by omega), if_neg (by omega), if_pos (by omega)]; omega
theorem w_equ (r : Rw) (k : Nat) (v : Int32) {j : Nat} (hj : j < 12) (h : j ≠ w_pl k) : w_eq r (upd r k v) j := by
  have hu : ∀ i, i ≠ k → upd r k v i = r i := fun i hi => by simp [upd, hi]
  match j, hj, h with
  | 0, _, h => exact ⟨hu _ (fun e => h (by rw [← e]; rfl)), hu _ (fun e => h (by rw [← e]; rfl)), hu _ (fun e => h (by rw [← e]; rfl)), hu _ (fun e => h (by rw [← e]; rfl))⟩
  | 1, _, h => exact fun i hi => hu _ (fun e => h (by rw [← e, w_pl1 hi]))
  | 2, _, h => exact fun i hi => hu _ (fun e => h (by rw [← e, w_pl2 hi]))
  | 3, _, _ => trivial
  | 4, _, h => exact fun i hi => hu _ (fun e => h (by rw [← e, w_pl4 hi]))
  | j + 5, hj, h => exact fun i hi => hu _ (fun e => h (by rw [← e, w_plc (by omega) hi]; omega))
theorem wW.set {t : CT} {r r' : Rw} {H H1 : Heap} {s : State} (hP : wW t r H) (hK : wK t s) {i : Nat} (hi : i < 12) (he : va_at t.1 cC (t.2.1 i, wE t r' i) H1) (oq : ∀ q : Nat, q ≠ t.2.1 i → H1[q]? = H[q]?) (hn : ∀ j, j < 12 → j ≠ i → w_eq r r' j) : wW t r' H1 := by
  intro j hj
  by_cases hji : j = i
  · subst hji; exact he
  · exact (w_eq.at (hn j hj hji) (hP j hj)).kept (oq _ (fun z => hji (hK.2 j i hj hi z)))
theorem wW.kept {t : CT} {r : Rw} {H H1 : Heap} (hP : wW t r H) (oq : ∀ j, j < 12 → H1[t.2.1 j]? = H[t.2.1 j]?) : wW t r H1 := fun j hj => (hP j hj).kept (oq j hj)
section WR
variable {p : Program} {l : Launch} {e : Env} {R : Room} {s : State} {m : MethodId} {args : Array Value} {below : List Frame} {meth : Method} {c : Code} {H : Heap} {locs : List Loc} {cells slots : Nat} {Q : State → Prop}
variable {cc : ByteArray} {pc nL : Nat} {ls : Array Slot} {rest : List Value} {own : String} {A : Nat → Prop} {H0 : Heap} {t : CT} {r : Rw}
theorem wk_P0 (hP : wW t r H) : va_P t.1 cC [(t.2.1 0, .inr (1, wF t r))] H := fun k q hq => by
  match k, hq with
  | 0, hq => cases hq; exact hP 0 (by decide)
  | k + 1, hq => simp at hq
theorem wk_get (S : CallFix p m c cc nL s args lw_all own) (hK : wK t s) (hP : wW t r H) (k : Nat) (hk : k < 8) {index : Nat} (hlink : (Cond.fieldLink own index RX4 (TX4 k).2.1 (TX4 k).2.2.1).before args s = true) (hsame : (TX4 k).1 = RX4) {v : Value} (hv : (wF t r)[k]? = some v) (hdg : decode cc pc = .ok (.getfield index, 3))
    (kk : W p l e R s m args below meth c H locs cells slots Q (F0 m (pc + 3) ls (v :: rest))) : W p l e R s m args below meth c H locs cells slots Q (F0 m pc ls (.ref (t.2.1 0) :: rest)) :=
  va_get (D := t.1) (ci := 1) (v := v) (C := RX4) (T := TX4) (N := 8) S.1 S.2.1 S.2.2.2.2 in_X4 S.2.2.2.1 hK.1 (wk_P0 hP) 0 rfl rfl k hk hlink (fun y h => by rw [hsame] at h; exact h) hv hdg kk
theorem wk_getN (S : CallFix p m c cc nL s args lw_all own) (hK : wK t s) (hP : wW t r H) (k : Nat) (hk : k < 8) {index : Nat} {host : String} (hlink : (Cond.fieldLinkNest own index RX4 (TX4 k).2.1 (TX4 k).2.2.1 host).before args s = true) (hsame : (TX4 k).1 = RX4) {v : Value} (hv : (wF t r)[k]? = some v) (hdg : decode cc pc = .ok (.getfield index, 3))
    (kk : W p l e R s m args below meth c H locs cells slots Q (F0 m (pc + 3) ls (v :: rest))) : W p l e R s m args below meth c H locs cells slots Q (F0 m pc ls (.ref (t.2.1 0) :: rest)) :=
  va_getN (D := t.1) (ci := 1) (v := v) (C := RX4) (T := TX4) (N := 8) S.1 S.2.1 S.2.2.2.2 in_X4 S.2.2.2.1 hK.1 (wk_P0 hP) 0 rfl rfl k hk hlink (fun y h => by rw [hsame] at h; exact h) hv hdg kk
theorem wE_c (t : CT) (r : Rw) (w : Nat) : wE t r (5 + w) = .inl (t.2.2 0, 8, .inl (fun k => r (16 + 7 * k + w))) := by
  rw [Nat.add_comm 5 w]; rfl
theorem wk_put (S : CallFix p m c cc nL s args lw_all own) (hK : wK t s) (hP : wW t r H) (hS : va_S A H0 H locs) (hA : ∀ q, wA t q → A q) (k i : Nat) (hk : k < 8) (hi4 : i < 4) {index : Nat} (hlink : (Cond.fieldLink own index RX4 (TX4 k).2.1 (TX4 k).2.2.1).before args s = true) (hsame : (TX4 k).1 = RX4) (hfin : (TX4 k).2.2.2 = false) {v : Int32} (hd : parseFieldDescriptor (TX4 k).2.2.1 = some .int)
    (hset : (wF t r).set k (.int v) = wF t (upd r i v)) (hdg : decode cc pc = .ok (.putfield index, 3))
    (kk : ∀ (H1 : Heap) (locs1 : List Loc), wW t (upd r i v) H1 → (∀ q : Nat, q ≠ t.2.1 0 → H1[q]? = H[q]?) → va_S A H0 H1 locs1 → W p l e R s m args below meth c H1 locs1 cells slots Q (F0 m (pc + 3) ls rest)) : W p l e R s m args below meth c H locs cells slots Q (F0 m pc ls (.int v :: .ref (t.2.1 0) :: rest)) := by
  have hap := va_apart (D := t.1) (ci := 1) (own := own) (C := RX4) (T := TX4) (N := 8) S.2.2.2.2 in_X4 tyX4 tyX4_ok nmX4 hK.1 rfl
  obtain ⟨r0, h1, cell, q1, q2, q3, q4⟩ := hP 0 (by decide)
  have hr0 : r0 = (RX4, TX4, 8) := Option.some.inj (h1.symm.trans rfl)
  subst hr0
  obtain ⟨hSl, hfc, kC, hkC, hkind⟩ := hK.1.1 1 _ rfl
  obtain ⟨cf, kf, fi, f, hi, hsl⟩ := hSl k hk
  have hlay := S.2.2.2.2 _ (in_X4 _ (u_in_lay hk))
  unfold u_lay at hlay
  rw [if_neg (by rw [hfin]; decide)] at hlay
  have hst := (u_facts hfc hkC (u_lays S.2.2.2.2 in_X4 hk) hi).1
  have h6 := u_store (v := .int v) hfc hkC hkind hlay hi hd rfl rfl
  refine W.putK S.1 S.2.1 (f := f) ⟨S.2.2.2.1, hlink, ⟨_, _, _, by rw [hsame] at hi; exact hi⟩, hst⟩ (by rw [q2]; exact h6) q1 q3 (by rw [hsl]; exact k2_hasslot (q4 k hk)) rfl rfl hdg fun H' e1 e2 e3 => ?_
  rw [hsl] at e1 ⊢
  refine kk H' _ (hP.set hK (i := 0) (by decide) ?_ e3 (fun j hj h0 => w_equ r i v hj (by rw [w_pl0 hi4]; exact h0))) e3 (hS.put e2 e3 (hA _ (wA.at t (by decide))))
  refine ⟨_, rfl, t_OB.to (V := updV (vp_V (wF t r)) k (.int v)) ⟨_, e1, q2, q3, t_set q4 hap hk (.int v)⟩ (fun j _ => ?_)⟩
  rw [← hset]
  exact vp_updV_set (by exact hk) (.int v) j
theorem wk_putN (S : CallFix p m c cc nL s args lw_all own) (hK : wK t s) (hP : wW t r H) (hS : va_S A H0 H locs) (hA : ∀ q, wA t q → A q) (k i : Nat) (hk : k < 8) (hi4 : i < 4) {index : Nat} {host : String} (hlink : (Cond.fieldLinkNest own index RX4 (TX4 k).2.1 (TX4 k).2.2.1 host).before args s = true) (hsame : (TX4 k).1 = RX4) (hfin : (TX4 k).2.2.2 = false) {v : Int32} (hd : parseFieldDescriptor (TX4 k).2.2.1 = some .int)
    (hset : (wF t r).set k (.int v) = wF t (upd r i v)) (hdg : decode cc pc = .ok (.putfield index, 3))
    (kk : ∀ (H1 : Heap) (locs1 : List Loc), wW t (upd r i v) H1 → (∀ q : Nat, q ≠ t.2.1 0 → H1[q]? = H[q]?) → va_S A H0 H1 locs1 → W p l e R s m args below meth c H1 locs1 cells slots Q (F0 m (pc + 3) ls rest)) : W p l e R s m args below meth c H locs cells slots Q (F0 m pc ls (.int v :: .ref (t.2.1 0) :: rest)) := by
  have hap := va_apart (D := t.1) (ci := 1) (own := own) (C := RX4) (T := TX4) (N := 8) S.2.2.2.2 in_X4 tyX4 tyX4_ok nmX4 hK.1 rfl
  obtain ⟨r0, h1, cell, q1, q2, q3, q4⟩ := hP 0 (by decide)
  have hr0 : r0 = (RX4, TX4, 8) := Option.some.inj (h1.symm.trans rfl)
  subst hr0
  obtain ⟨hSl, hfc, kC, hkC, hkind⟩ := hK.1.1 1 _ rfl
  obtain ⟨cf, kf, fi, f, hi, hsl⟩ := hSl k hk
  have hlay := S.2.2.2.2 _ (in_X4 _ (u_in_lay hk))
  unfold u_lay at hlay
  rw [if_neg (by rw [hfin]; decide)] at hlay
  have hst := (u_facts hfc hkC (u_lays S.2.2.2.2 in_X4 hk) hi).1
  have h6 := u_store (v := .int v) hfc hkC hkind hlay hi hd rfl rfl
  refine va_WputK S.1 S.2.1 (f := f) S.2.2.2.1 hlink (by rw [hsame] at hi; exact hi) hst (by rw [q2]; exact h6) q1 q3 (by rw [hsl]; exact k2_hasslot (q4 k hk)) rfl rfl hdg fun H' e1 e2 e3 => ?_
  rw [hsl] at e1 ⊢
  refine kk H' _ (hP.set hK (i := 0) (by decide) ?_ e3 (fun j hj h0 => w_equ r i v hj (by rw [w_pl0 hi4]; exact h0))) e3 (hS.put e2 e3 (hA _ (wA.at t (by decide))))
  refine ⟨_, rfl, t_OB.to (V := updV (vp_V (wF t r)) k (.int v)) ⟨_, e1, q2, q3, t_set q4 hap hk (.int v)⟩ (fun j _ => ?_)⟩
  rw [← hset]
  exact vp_updV_set (by exact hk) (.int v) j
theorem wk_aald (S : CallFix p m c cc nL s args lw_all own) (hK : wK t s) (hP : wW t r H) (k : Nat) (hk : k < 7) {i : Int32} (hi : i = nI k) (hdg : decode cc pc = .ok (.aaload, 1))
    (kk : W p l e R s m args below meth c H locs cells slots Q (F0 m (pc + 1) ls (.ref (t.2.1 (5 + k)) :: rest))) : W p l e R s m args below meth c H locs cells slots Q (F0 m pc ls (.int i :: .ref (t.2.1 3) :: rest)) := by
  have h3 : H[t.2.1 3]? = some (vp_cell (t.2.2 1) (7, .inr (.inr (.inr (.inr (fun k => some (t.2.1 (5 + k)))))))) := hP 3 (by decide)
  subst hi
  exact W.aald (v := .ref (t.2.1 (5 + k))) (ty := .array .int) S.1 S.2.1 h3 ((hK.1.2 1 _ rfl).1 7 (fun j => va_rf (some (t.2.1 (5 + j))))) rfl (fun q => by cases q) (by show ¬ (nI k < 0 ∨ (arrV _ _ _).slots.size ≤ _); rw [arrV_size]; exact nI_in (N := 7) hk (by decide)) (by show (arrV _ _ _).slots[_]? = _; rw [nI_clamp (by omega), arrV_read _ _ hk]; rfl) rfl rfl hdg kk
theorem wk_ald (S : CallFix p m c cc nL s args lw_all own) (hK : wK t s) (hP : wW t r H) (j : Nat) (hj : j < 12) {n : Nat} {f : Rw} (he : wE t r j = .inl (t.2.2 0, n, .inl f)) (k : Nat) (hk : k < n) (hn : n < 2 ^ 31) {i : Int32} (hi : i = nI k) (hdg : decode cc pc = .ok (.iaload, 1))
    (kk : W p l e R s m args below meth c H locs cells slots Q (F0 m (pc + 1) ls (.int (f k) :: rest))) : W p l e R s m args below meth c H locs cells slots Q (F0 m pc ls (.int i :: .ref (t.2.1 j) :: rest)) := by
  have ha := hP j hj
  rw [he] at ha
  exact ka_ld (cl := cC) S hK.1 ha k hk hn hi hdg kk
theorem wk_ast (S : CallFix p m c cc nL s args lw_all own) (hK : wK t s) (hP : wW t r H) (hS : va_S A H0 H locs) (hA : ∀ q, wA t q → A q) (j : Nat) (hj : j < 12) {n : Nat} {f : Rw} (he : wE t r j = .inl (t.2.2 0, n, .inl f)) (k : Nat) (hk : k < n) (hn : n < 2 ^ 31) {i v : Int32} (hi : i = nI k) (z : Nat) (hz : w_pl z = j) (he' : ∃ g : Rw, wE t (upd r z v) j = .inl (t.2.2 0, n, .inl g) ∧ ∀ q, q < n → g q = upd f k v q) (hdg : decode cc pc = .ok (.iastore, 1))
    (kk : ∀ (H1 : Heap) (locs1 : List Loc), wW t (upd r z v) H1 → (∀ q : Nat, q ≠ t.2.1 j → H1[q]? = H[q]?) → va_S A H0 H1 locs1 → W p l e R s m args below meth c H1 locs1 cells slots Q (F0 m (pc + 1) ls rest)) : W p l e R s m args below meth c H locs cells slots Q (F0 m pc ls (.int v :: .int i :: .ref (t.2.1 j) :: rest)) := by
  have ha := hP j hj
  rw [he] at ha
  obtain ⟨g, hg, hgf⟩ := he'
  refine W.iast S.1 S.2.1 (show H[t.2.1 j]? = some (vp_cell (t.2.2 0) (n, .inl f)) from ha) ((hK.1.2 0 _ rfl).1 n (fun j => .int (f j))) (fun q => by cases q) (by show ¬ (i < 0 ∨ (arrV _ _ _).slots.size ≤ _); rw [arrV_size, hi]; exact vp_in_nI hk hn) rfl rfl hdg fun H1 e z1 oq => ?_
  refine kk H1 _ (hP.set hK hj ?_ oq (fun i hi h0 => w_equ r z v hi (by rw [hz]; exact h0))) oq (hS.put z1 oq (hA _ (wA.at t hj)))
  rw [hg]
  show H1[t.2.1 j]? = some (vp_cell _ _)
  rw [cell_congr hgf, e, hi, nI_clamp (by omega), vp_cell_i, vp_cell_i, arrV_store]
  congr 2
  funext q
  by_cases hq : q = k
  · subst hq; simp [updV, upd]
  · simp [updV, upd, hq]
theorem wk_ldf (S : CallFix p m c cc nL s args lw_all own) (hK : wK t s) (hP : wW t r H) (k : Nat) (hk : k < 6) {i : Int32} (hi : i = nI k) (hdg : decode cc pc = .ok (.iaload, 1))
    (kk : W p l e R s m args below meth c H locs cells slots Q (F0 m (pc + 1) ls (.int (r (4 + k)) :: rest))) : W p l e R s m args below meth c H locs cells slots Q (F0 m pc ls (.int i :: .ref (t.2.1 (1)) :: rest)) :=
  wk_ald S hK hP (1) (by omega) rfl k hk (by decide) hi hdg kk
theorem wk_stf (S : CallFix p m c cc nL s args lw_all own) (hK : wK t s) (hP : wW t r H) (hS : va_S A H0 H locs) (hA : ∀ q, wA t q → A q) (k : Nat) (hk : k < 6) {i v : Int32} (hi : i = nI k) (hdg : decode cc pc = .ok (.iastore, 1))
    (kk : ∀ (H1 : Heap) (locs1 : List Loc), wW t (upd r (4 + k) v) H1 → (∀ q : Nat, q ≠ t.2.1 (1) → H1[q]? = H[q]?) → va_S A H0 H1 locs1 → W p l e R s m args below meth c H1 locs1 cells slots Q (F0 m (pc + 1) ls rest)) : W p l e R s m args below meth c H locs cells slots Q (F0 m pc ls (.int v :: .int i :: .ref (t.2.1 (1)) :: rest)) :=
  wk_ast S hK hP hS hA (1) (by omega) rfl k hk (by decide) hi (4 + k) (w_pl1 hk) ⟨_, rfl, fun q hq => by show upd r _ v _ = upd _ k v q; unfold upd; by_cases h : q = k <;> simp [h] <;> omega⟩ hdg kk
theorem wk_ldl (S : CallFix p m c cc nL s args lw_all own) (hK : wK t s) (hP : wW t r H) (k : Nat) (hk : k < 6) {i : Int32} (hi : i = nI k) (hdg : decode cc pc = .ok (.iaload, 1))
    (kk : W p l e R s m args below meth c H locs cells slots Q (F0 m (pc + 1) ls (.int (r (10 + k)) :: rest))) : W p l e R s m args below meth c H locs cells slots Q (F0 m pc ls (.int i :: .ref (t.2.1 (2)) :: rest)) :=
  wk_ald S hK hP (2) (by omega) rfl k hk (by decide) hi hdg kk
theorem wk_stl (S : CallFix p m c cc nL s args lw_all own) (hK : wK t s) (hP : wW t r H) (hS : va_S A H0 H locs) (hA : ∀ q, wA t q → A q) (k : Nat) (hk : k < 6) {i v : Int32} (hi : i = nI k) (hdg : decode cc pc = .ok (.iastore, 1))
    (kk : ∀ (H1 : Heap) (locs1 : List Loc), wW t (upd r (10 + k) v) H1 → (∀ q : Nat, q ≠ t.2.1 (2) → H1[q]? = H[q]?) → va_S A H0 H1 locs1 → W p l e R s m args below meth c H1 locs1 cells slots Q (F0 m (pc + 1) ls rest)) : W p l e R s m args below meth c H locs cells slots Q (F0 m pc ls (.int v :: .int i :: .ref (t.2.1 (2)) :: rest)) :=
  wk_ast S hK hP hS hA (2) (by omega) rfl k hk (by decide) hi (10 + k) (w_pl2 hk) ⟨_, rfl, fun q hq => by show upd r _ v _ = upd _ k v q; unfold upd; by_cases h : q = k <;> simp [h] <;> omega⟩ hdg kk
theorem wk_ldh (S : CallFix p m c cc nL s args lw_all own) (hK : wK t s) (hP : wW t r H) (k : Nat) (hk : k < 10) {i : Int32} (hi : i = nI k) (hdg : decode cc pc = .ok (.iaload, 1))
    (kk : W p l e R s m args below meth c H locs cells slots Q (F0 m (pc + 1) ls (.int (r (72 + k)) :: rest))) : W p l e R s m args below meth c H locs cells slots Q (F0 m pc ls (.int i :: .ref (t.2.1 (4)) :: rest)) :=
  wk_ald S hK hP (4) (by omega) rfl k hk (by decide) hi hdg kk
theorem wk_sth (S : CallFix p m c cc nL s args lw_all own) (hK : wK t s) (hP : wW t r H) (hS : va_S A H0 H locs) (hA : ∀ q, wA t q → A q) (k : Nat) (hk : k < 10) {i v : Int32} (hi : i = nI k) (hdg : decode cc pc = .ok (.iastore, 1))
    (kk : ∀ (H1 : Heap) (locs1 : List Loc), wW t (upd r (72 + k) v) H1 → (∀ q : Nat, q ≠ t.2.1 (4) → H1[q]? = H[q]?) → va_S A H0 H1 locs1 → W p l e R s m args below meth c H1 locs1 cells slots Q (F0 m (pc + 1) ls rest)) : W p l e R s m args below meth c H locs cells slots Q (F0 m pc ls (.int v :: .int i :: .ref (t.2.1 (4)) :: rest)) :=
  wk_ast S hK hP hS hA (4) (by omega) rfl k hk (by decide) hi (72 + k) (w_pl4 hk) ⟨_, rfl, fun q hq => by show upd r _ v _ = upd _ k v q; unfold upd; by_cases h : q = k <;> simp [h] <;> omega⟩ hdg kk
theorem wk_ldc (S : CallFix p m c cc nL s args lw_all own) (hK : wK t s) (hP : wW t r H) (w : Nat) (hw : w < 7) (k : Nat) (hk : k < 8) {i : Int32} (hi : i = nI k) (hdg : decode cc pc = .ok (.iaload, 1))
    (kk : W p l e R s m args below meth c H locs cells slots Q (F0 m (pc + 1) ls (.int (r (16 + 7 * k + w)) :: rest))) : W p l e R s m args below meth c H locs cells slots Q (F0 m pc ls (.int i :: .ref (t.2.1 (5 + w)) :: rest)) :=
  wk_ald S hK hP (5 + w) (by omega) (wE_c t _ w) k hk (by decide) hi hdg kk
theorem wk_stc (S : CallFix p m c cc nL s args lw_all own) (hK : wK t s) (hP : wW t r H) (hS : va_S A H0 H locs) (hA : ∀ q, wA t q → A q) (w : Nat) (hw : w < 7) (k : Nat) (hk : k < 8) {i v : Int32} (hi : i = nI k) (hdg : decode cc pc = .ok (.iastore, 1))
    (kk : ∀ (H1 : Heap) (locs1 : List Loc), wW t (upd r (16 + 7 * k + w) v) H1 → (∀ q : Nat, q ≠ t.2.1 (5 + w) → H1[q]? = H[q]?) → va_S A H0 H1 locs1 → W p l e R s m args below meth c H1 locs1 cells slots Q (F0 m (pc + 1) ls rest)) : W p l e R s m args below meth c H locs cells slots Q (F0 m pc ls (.int v :: .int i :: .ref (t.2.1 (5 + w)) :: rest)) :=
  wk_ast S hK hP hS hA (5 + w) (by omega) (wE_c t _ w) k hk (by decide) hi (16 + 7 * k + w) (w_plc hw hk) ⟨_, (wE_c t _ w), fun q hq => by show upd r _ v _ = upd _ k v q; unfold upd; by_cases h : q = k <;> simp [h] <;> omega⟩ hdg kk
end WR

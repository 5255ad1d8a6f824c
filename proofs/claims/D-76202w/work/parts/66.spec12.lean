/-! THE MODEL's PARSER: its state is the row r and the fields x -/
def frN (x : Nat → Rw) : Nat := (x 9 5).toNatClampNeg
def toN (x : Nat → Rw) : Nat := (x 9 6).toNatClampNeg
def PI (tp : Nat) (x : Nat → Rw) : Prop := x 9 1 = nI tp ∧ tp ≤ 120 ∧ (∃ a, a ≤ tp ∧ x 9 5 = nI a) ∧ ∃ a, a ≤ tp ∧ x 9 6 = nI a
theorem PI.fr {tp : Nat} {x : Nat → Rw} (h : PI tp x) : x 9 5 = nI (frN x) ∧ frN x ≤ tp := by
  obtain ⟨-, h2, ⟨a, h3, h4⟩, -⟩ := h
  exact pv_x h4 h3 (by omega)
theorem PI.to {tp : Nat} {x : Nat → Rw} (h : PI tp x) : x 9 6 = nI (toN x) ∧ toN x ≤ tp := by
  obtain ⟨-, h2, -, ⟨a, h3, h4⟩⟩ := h
  exact pv_x h4 h3 (by omega)
def q_next (tp : Nat) (x : Nat → Rw) : Nat → Rw := QX x tp (toN x)
def failx (x : Nat → Rw) : Nat → Rw := va_up x 9 (upd (x 9) 8 (x 9 5))
theorem PI.next {tp : Nat} {x : Nat → Rw} (h : PI tp x) : PI tp (q_next tp x) := by
  have ht := h.to.2
  have hf := q_sk_le (mB_end x tp) 121 (toN x) ht
  exact ⟨h.1, h.2.1, ⟨_, hf, rfl⟩, ⟨_, q_to_le (mB_end x tp) hf, rfl⟩⟩
theorem PI.fail {tp : Nat} {x : Nat → Rw} (h : PI tp x) : PI tp (failx x) := ⟨h.1, h.2.1, h.2.2.1, h.2.2.2⟩
abbrev m_h3 (tp : Nat) (x : Nat → Rw) (i : Nat) (u v w : Int32) : Prop := mB x tp (frN x + i) = u ∧ mB x tp (frN x + i + 1) = v ∧ mB x tp (frN x + i + 2) = w
abbrev m_wd (x : Nat → Rw) (v : Int32) : Prop := x 9 4 = 1 ∧ x 9 6 - x 9 5 = v
abbrev m_4 (tp : Nat) (x : Nat → Rw) (u v w y : Int32) : Prop := m_wd x 4 ∧ m_h3 tp x 0 u v w ∧ m_h3 tp x 1 v w y
abbrev m_5 (tp : Nat) (x : Nat → Rw) (u v w y z : Int32) : Prop := m_wd x 5 ∧ m_h3 tp x 0 u v w ∧ m_h3 tp x 2 w y z
abbrev m_6 (tp : Nat) (x : Nat → Rw) (u v w y z q : Int32) : Prop := m_wd x 6 ∧ m_h3 tp x 0 u v w ∧ m_h3 tp x 3 y z q
abbrev m_num (x : Nat → Rw) (lo hi : Int32) : Prop := x 9 4 = 2 ∧ lo ≤ x 9 7 ∧ x 9 7 ≤ hi
def m_kind (tp : Nat) (x : Nat → Rw) : Option Nat := if m_4 tp x 99 97 115 107 then some 0 else if m_5 tp x 99 114 97 99 107 then some 1 else if m_4 tp x 114 111 108 108 then some 2 else if m_6 tp x 109 101 108 108 111 119 then some 3 else if m_4 tp x 101 99 104 111 then some 4 else if m_4 tp x 104 101 97 116 then some 5 else if m_6 tp x 102 111 114 103 101 100 then some 6 else none
abbrev Ps : Type := Bool × Rw × (Nat → Rw)
def m_perh (tp : Nat) (q : Bool) (pl : Nat) (most : Int32) (r : Rw) (x : Nat → Rw) : Ps := match q with
  | false => (true, r, x)
  | true => if m_num (q_next tp x) 0 most then (true, upd r pl (q_next tp x 9 7), q_next tp (q_next tp x)) else (false, r, failx (q_next tp x))
section KX
variable {p : Program} {l : Launch} {e : Env} {R : Room} {s : State} {m : MethodId} {args : Array Value} {below : List Frame} {meth : Method} {c : Code} {H H0 : Heap} {locs : List Loc} {cells slots : Nat} {Q : State → Prop}
variable {cc : ByteArray} {pc nL : Nat} {ls : Array Slot} {rest : List Value} {t : MT} {r : Rw} {x : Nat → Rw}
theorem c_nx (S : CallFix p m c cc nL s args lw_all RX13) (hK : mK t s) (hP : mW t r x H) (hS : va_S (mA t) H0 H locs) (hR : kRm R 2 cells slots) (hsz : ls.size = nL) {tp : Nat} (hx : PI tp x) (hrest : (rest.map fun v => v.category).sum ≤ 8) (hdg : decode cc pc = .ok (.invokevirtual 256, 3)) (kk : ∀ (H1 : Heap) (locs1 : List Loc), mW t r (q_next tp x) H1 → va_S (mA t) H0 H1 locs1 → W p l e R s m args below meth c H1 locs1 cells slots Q (F0 m (pc + 3) ls rest)) : W p l e R s m args below meth c H locs cells slots Q (F0 m pc ls (.ref (t.2.1 0) :: rest)) :=
  c_nextToken S hK hP hS hR hsz tp (toN x) hx.1 hx.2.1 hx.to.1 hx.to.2 hrest hdg kk
end KX

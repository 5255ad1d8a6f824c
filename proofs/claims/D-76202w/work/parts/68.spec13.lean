def m_cellar (tp pl : Nat) (most : Int32) (r : Rw) (x : Nat → Rw) : Ps := if m_num (q_next tp x) 0 5 then m_perh tp true (pl + (q_next tp x 9 7).toNatClampNeg) most r (q_next tp x) else (false, r, failx (q_next tp x))
theorem PI_perh {tp : Nat} {q : Bool} {pl : Nat} {most : Int32} {r : Rw} {x : Nat → Rw} (h : PI tp x) : PI tp (m_perh tp q pl most r x).2.2 := by
  unfold m_perh
  split
  · exact h
  · split
    · exact h.next.next
    · exact h.next.fail
theorem PI_cellar {tp : Nat} {pl : Nat} {most : Int32} {r : Rw} {x : Nat → Rw} (h : PI tp x) : PI tp (m_cellar tp pl most r x).2.2 := by
  unfold m_cellar
  split
  · exact PI_perh h.next
  · exact h.next.fail
abbrev m_in (tp : Nat) (x : Nat → Rw) : Prop := m_wd x 2 ∧ mB x tp (frN x) = 105 ∧ mB x tp (frN x + 1) = 110
/-- a step of a chain: on with f, if all was right -/
def m_and (s : Ps) (f : Rw → (Nat → Rw) → Ps) : Ps := match s.1 with
  | true => f s.2.1 s.2.2
  | false => s
def m_c2 (tp k : Nat) (r : Rw) (x : Nat → Rw) : Ps := m_perh tp (decide (m_4 tp x 112 101 97 108)) (16 + 7 * k + 2) 999 r x
def m_c3 (tp k : Nat) (r : Rw) (x : Nat → Rw) : Ps := m_perh tp (decide (m_5 tp x 112 105 116 99 104)) (16 + 7 * k + 3) 11 r x
def m_c4 (tp k : Nat) (r : Rw) (x : Nat → Rw) : Ps := m_perh tp (decide (m_5 tp x 104 111 111 112 115)) (16 + 7 * k + 4) 999 r x
def m_c1 (tp k : Nat) (r : Rw) (x : Nat → Rw) : Ps := m_perh tp (decide (m_in tp x)) (16 + 7 * k + 1) 5 r x
def m_chain (tp k : Nat) (r : Rw) (x : Nat → Rw) : Ps := m_and (m_and (m_and (m_c1 tp k r x) (m_c2 tp k)) (m_c3 tp k)) (m_c4 tp k)
def m_cask (tp : Nat) (i : Int32) (r : Rw) (x : Nat → Rw) : Ps := if pN r = 8 then (false, r, failx x) else m_chain tp (pN r) (p_comes r i 0) (q_next tp x)
def m_item (tp : Nat) (r : Rw) (x : Nat → Rw) : Ps := match m_kind tp x with
  | some k => m_cask tp (nI k) r x
  | none => if m_5 tp x 115 116 111 114 109 then m_cellar tp 10 99 r x else if m_5 tp x 102 114 111 115 116 then m_cellar tp 4 9 r x else (false, r, failx x)
theorem PI_and {tp : Nat} {s : Ps} {f : Rw → (Nat → Rw) → Ps} (h : PI tp s.2.2) (hf : ∀ r x, PI tp x → PI tp (f r x).2.2) : PI tp (m_and s f).2.2 := by
  unfold m_and
  split
  · exact hf _ _ h
  · exact h
theorem PI_chain {tp k : Nat} {r : Rw} {x : Nat → Rw} (h : PI tp x) : PI tp (m_chain tp k r x).2.2 := PI_and (PI_and (PI_and (PI_perh h) (fun _ _ h => PI_perh h)) (fun _ _ h => PI_perh h)) (fun _ _ h => PI_perh h)
theorem PI_item {tp : Nat} {r : Rw} {x : Nat → Rw} (h : PI tp x) : PI tp (m_item tp r x).2.2 := by
  unfold m_item
  split
  · unfold m_cask
    split
    · exact h.fail
    · exact PI_chain h.next
  · split
    · exact PI_cellar h
    · split
      · exact PI_cellar h
      · exact h.fail
theorem pN_comes {b : Nat} {r : Rw} (hV : pV b r) (h : pN r < 8) (i c : Int32) : p_comes r i c 0 - 1 = nI (pN r) := by
  have e : p_comes r i c 0 = r 0 + 1 := up_s
  rw [e, hV.n.1, nI_1]
  exact nI_pred (pN r)
theorem mc_t {s : Ps} {f : Rw → (Nat → Rw) → Ps} (h : s.1 = true) : m_and s f = f s.2.1 s.2.2 := by unfold m_and; rw [h]
theorem mc_f {s : Ps} {f : Rw → (Nat → Rw) → Ps} (h : ¬ s.1 = true) : m_and s f = s := by
  unfold m_and
  split
  · next e => exact absurd e h
  · rfl
theorem m_kind_lt {tp : Nat} {x : Nat → Rw} {i : Nat} (h : m_kind tp x = some i) : i < 7 := by
  unfold m_kind at h
  repeat' (first | (split at h) | (cases h; decide))
  · cases h

/-! THE WHOLE TEXT -/
def m_tl (tp : Nat) : Nat → Nat → Ps → Nat × Ps
  | 0, n, s => (n, s)
  | j + 1, n, s => if s.1 = true ∧ s.2.2 9 4 = 3 then m_tl tp j (n + 1) (m_item tp s.2.1 (q_next tp s.2.2)) else (n, s)
def m_x0 (r : Rw) (x : Nat → Rw) : Nat → Rw := va_up (va_up x 2 r) 9 (upd (x 9) 6 0)
def m_run (tp : Nat) (r : Rw) (x : Nat → Rw) : Nat × Ps := m_tl tp 121 1 (m_item tp r (QX (m_x0 r x) tp 0))
abbrev m_ok (s : Ps) : Prop := s.1 = true ∧ s.2.2 9 4 = 0
def m_fault (s : Ps) : Int32 := if s.1 = true then s.2.2 9 5 else s.2.2 9 8
def o_mtext (tp : Nat) (r : Rw) (x : Nat → Rw) : Int32 × Rw := if m_ok (m_run tp r x).2 then (nI (m_run tp r x).1, (m_run tp r x).2.2.1) else (-1 - m_fault (m_run tp r x).2, r)
/-- what a text leaves of the fields -/
def KX (x x1 : Nat → Rw) : Prop := (∀ k, k ≠ 9 → x1 k = x k) ∧ x1 9 0 = x 9 0 ∧ x1 9 1 = x 9 1 ∧ x1 9 3 = x 9 3
theorem KX.rf {x : Nat → Rw} : KX x x := ⟨fun _ _ => rfl, rfl, rfl, rfl⟩
theorem KX.tr {x y z : Nat → Rw} (h : KX x y) (g : KX y z) : KX x z := ⟨fun k hk => (g.1 k hk).trans (h.1 k hk), g.2.1.trans h.2.1, g.2.2.1.trans h.2.2.1, g.2.2.2.trans h.2.2.2⟩
theorem KX.qx {x : Nat → Rw} {tp k : Nat} : KX x (QX x tp k) := ⟨fun _ hk => va_un hk, rfl, rfl, rfl⟩
theorem KX.next {x y : Nat → Rw} {tp : Nat} (h : KX x y) : KX x (q_next tp y) := h.tr KX.qx
theorem KX.fail {x y : Nat → Rw} (h : KX x y) : KX x (failx y) := h.tr ⟨fun _ hk => va_un hk, rfl, rfl, rfl⟩
theorem KX_perh {tp : Nat} {q : Bool} {pl : Nat} {w : Int32} {r : Rw} {x y : Nat → Rw} (h : KX x y) : KX x (m_perh tp q pl w r y).2.2 := by
  unfold m_perh
  split
  · exact h
  · split
    · exact h.next.next
    · exact h.next.fail
theorem KX_cellar {tp pl : Nat} {w : Int32} {r : Rw} {x y : Nat → Rw} (h : KX x y) : KX x (m_cellar tp pl w r y).2.2 := by
  unfold m_cellar
  split
  · exact KX_perh h.next
  · exact h.next.fail
theorem KX_and {x : Nat → Rw} {s : Ps} {f : Rw → (Nat → Rw) → Ps} (h : KX x s.2.2) (hf : ∀ r y, KX x y → KX x (f r y).2.2) : KX x (m_and s f).2.2 := by
  unfold m_and
  split
  · exact hf _ _ h
  · exact h
theorem KX_item {tp : Nat} {r : Rw} {x y : Nat → Rw} (h : KX x y) : KX x (m_item tp r y).2.2 := by
  unfold m_item
  split
  · unfold m_cask
    split
    · exact h.fail
    · exact KX_and (KX_and (KX_and (KX_perh h.next) (fun _ _ h => KX_perh h)) (fun _ _ h => KX_perh h)) (fun _ _ h => KX_perh h)
  · split
    · exact KX_cellar h
    · split
      · exact KX_cellar h
      · exact h.fail
theorem PI_qx {tp k : Nat} {x : Nat → Rw} (h1 : x 9 1 = nI tp) (h2 : tp ≤ 120) (hk : k ≤ tp) : PI tp (QX x tp k) := by
  have hf := q_sk_le (mB_end x tp) 121 k hk
  exact ⟨h1, h2, ⟨_, hf, rfl⟩, ⟨_, q_to_le (mB_end x tp) hf, rfl⟩⟩
theorem q_sk_ge {B : Bt} : ∀ j k, k ≤ q_sk B j k
  | 0, k => Nat.le_refl k
  | j + 1, k => by
    rw [q_sk]
    split
    · have := q_sk_ge (B := B) j (k + 1); omega
    · omega
theorem q_wl_ge {B : Bt} : ∀ j k, k ≤ q_wl B j k
  | 0, k => Nat.le_refl k
  | j + 1, k => by
    rw [q_wl]
    split
    · have := q_wl_ge (B := B) j (k + 1); omega
    · omega
theorem q_dg_ge {B : Bt} : ∀ j k v, k ≤ (q_dg B j k v).1
  | 0, k, _ => Nat.le_refl k
  | j + 1, k, v => by
    rw [q_dg]
    split
    · have := q_dg_ge (B := B) j (k + 1) (q_nv v (B k)); omega
    · exact Nat.le_refl k
theorem q_to_ge {B : Bt} {f : Nat} : f ≤ q_to B f := by
  unfold q_to
  split
  · exact Nat.le_refl f
  · exact q_wl_ge _ _
  · exact q_dg_ge _ _ _
  · omega
theorem next_to {tp : Nat} {x : Nat → Rw} (h : PI tp x) : toN (q_next tp x) = q_to (mB x tp) (q_sk (mB x tp) 121 (toN x)) := by
  have h1 := q_to_le (mB_end x tp) (q_sk_le (mB_end x tp) 121 (toN x) h.to.2)
  have h2 := h.2.1
  exact nI_clamp (by omega)
theorem next_ge {tp : Nat} {x : Nat → Rw} (h : PI tp x) : toN x ≤ toN (q_next tp x) := by
  rw [next_to h]
  exact Nat.le_trans (q_sk_ge 121 (toN x)) q_to_ge
theorem q_tok_lt (c : Int32) : q_tok c < 5 := by
  unfold q_tok
  repeat' split
  all_goals decide
theorem next_3 {tp : Nat} {x : Nat → Rw} (h : PI tp x) (h3 : q_next tp x 9 4 = 3) : toN x < toN (q_next tp x) := by
  have e : nI (q_tok (mB x tp (q_sk (mB x tp) 121 (toN x)))) = nI 3 := h3
  have hl := q_tok_lt (mB x tp (q_sk (mB x tp) 121 (toN x)))
  have e3 := (nI_eq (by omega) (by decide)).mp e
  rw [next_to h]
  have := q_sk_ge (B := mB x tp) 121 (toN x)
  unfold q_to
  rw [e3]
  show toN x < q_sk (mB x tp) 121 (toN x) + 1
  omega
def adv (tp : Nat) (x z : Nat → Rw) : Prop := ∃ y, PI tp y ∧ toN x ≤ toN y ∧ z = q_next tp y
theorem adv.ge {tp : Nat} {x z : Nat → Rw} (h : adv tp x z) : PI tp z ∧ toN x ≤ toN z := by
  obtain ⟨y, h1, h2, rfl⟩ := h
  exact ⟨h1.next, Nat.le_trans h2 (next_ge h1)⟩
theorem adv_perh {tp : Nat} {q : Bool} {pl : Nat} {w : Int32} {r : Rw} {x z : Nat → Rw} (h : adv tp x z) (hg : (m_perh tp q pl w r z).1 = true) : adv tp x (m_perh tp q pl w r z).2.2 := by
  unfold m_perh at hg ⊢
  split
  · exact h
  · next =>
    split
    · exact ⟨_, h.ge.1.next, Nat.le_trans h.ge.2 (next_ge h.ge.1), rfl⟩
    · next hn => simp only [hn, if_false] at hg; exact absurd hg Bool.false_ne_true
theorem adv_and {tp : Nat} {x : Nat → Rw} {s : Ps} {f : Rw → (Nat → Rw) → Ps} (h : s.1 = true → adv tp x s.2.2) (hf : ∀ r z, adv tp x z → (f r z).1 = true → adv tp x (f r z).2.2) (hg : (m_and s f).1 = true) : adv tp x (m_and s f).2.2 := by
  rcases Decidable.em (s.1 = true) with q | q
  · rw [mc_t q] at hg ⊢
    exact hf _ _ (h q) hg
  · rw [mc_f q] at hg
    exact absurd hg q
theorem adv_item {tp : Nat} {r : Rw} {x : Nat → Rw} (h : PI tp x) (hg : (m_item tp r x).1 = true) : adv tp x (m_item tp r x).2.2 := by
  have h0 : adv tp x (q_next tp x) := ⟨x, h, Nat.le_refl _, rfl⟩
  have hc : ∀ pl w, (m_cellar tp pl w r x).1 = true → adv tp x (m_cellar tp pl w r x).2.2 := by
    intro pl w hg
    unfold m_cellar at hg ⊢
    split
    · next hn => rw [if_pos hn] at hg; exact adv_perh h0 hg
    · next hn => rw [if_neg hn] at hg; exact absurd hg Bool.false_ne_true
  unfold m_item at hg ⊢
  split
  · next k hk =>
    rw [hk] at hg
    simp only [] at hg
    unfold m_cask at hg ⊢
    split
    · next hn => rw [if_pos hn] at hg; exact absurd hg Bool.false_ne_true
    · next hn =>
      rw [if_neg hn] at hg
      exact adv_and (fun q => adv_and (fun q => adv_and (fun q => adv_perh h0 q) (fun _ _ a b => adv_perh a b) q) (fun _ _ a b => adv_perh a b) q) (fun _ _ a b => adv_perh a b) hg
  · next hk =>
    rw [hk] at hg
    simp only [] at hg
    split
    · next hn => rw [if_pos hn] at hg; exact hc _ _ hg
    · next hn =>
      rw [if_neg hn] at hg
      split
      · next hn => rw [if_pos hn] at hg; exact hc _ _ hg
      · next hn => rw [if_neg hn] at hg; exact absurd hg Bool.false_ne_true
theorem item_3 {tp : Nat} {r : Rw} {x : Nat → Rw} (h : PI tp x) (hg : (m_item tp r (q_next tp x)).1 = true) (h3 : (m_item tp r (q_next tp x)).2.2 9 4 = 3) : toN x < toN (m_item tp r (q_next tp x)).2.2 := by
  obtain ⟨y, h1, h2, h4⟩ := adv_item h.next hg
  rw [h4] at h3 ⊢
  have := next_3 h1 h3
  have := next_ge h
  omega
theorem pV_comes {b : Nat} {r : Rw} (hV : pV b r) (h8 : pN r < 8) {k : Nat} (hk : k < 7) {v : Nat} (hv : v < 6) : pV b (p_comes r (nI k) (nI v)) := by
  have hn := hV.n.1
  obtain ⟨h2, h3, h4, h5⟩ := hV
  generalize hN : pN r = n at *
  refine ⟨⟨n + 1, by omega, ?_⟩, ?_, fun q hq => ?_, fun q hq => ?_⟩
  · unfold p_comes; rw [up_s, hn]; exact nI_1 n
  · unfold p_comes; rw [hN]; repeat rw [up_n (by omega)]
    exact h3
  · by_cases e : q = n
    · subst e
      constructor
      · refine ⟨k, hk, ?_⟩
        unfold p_comes; rw [hN, up_n (by omega), up_n (by omega), up_n (by omega), up_n (by omega), up_n (by omega), up_n (by omega), up_n (by omega)]
        exact up_s
      · refine ⟨v, hv, ?_⟩
        unfold p_comes; rw [hN, up_n (by omega), up_n (by omega), up_n (by omega), up_n (by omega), up_n (by omega), up_n (by omega)]
        exact up_s
    · constructor
      · unfold p_comes; rw [hN]; repeat rw [up_n (by omega)]
        exact (h4 q hq).1
      · unfold p_comes; rw [hN]; repeat rw [up_n (by omega)]
        exact (h4 q hq).2
  · unfold p_comes; rw [hN]; repeat rw [up_n (by omega)]
    exact h5 q hq
theorem pV_perh {b tp : Nat} {q : Bool} {pl : Nat} {w : Int32} {r : Rw} {x : Nat → Rw} (hV : pV b r) (hs : ∀ v, 0 ≤ v ∧ v ≤ w → pV b (upd r pl v)) : pV b (m_perh tp q pl w r x).2.1 := by
  unfold m_perh
  split
  · exact hV
  · split
    · next h => exact hs _ h.2
    · exact hV
theorem pV_and {b : Nat} {s : Ps} {f : Rw → (Nat → Rw) → Ps} (h : pV b s.2.1) (hf : ∀ r x, pV b r → pV b (f r x).2.1) : pV b (m_and s f).2.1 := by
  unfold m_and
  split
  · exact hf _ _ h
  · exact h
theorem pV_item {b tp : Nat} {r : Rw} {x : Nat → Rw} (hV : pV b r) : pV b (m_item tp r x).2.1 := by
  have hc : ∀ pl w, (pl = 10 ∨ pl = 4) → pV b (m_cellar tp pl w r x).2.1 := by
    intro pl w hpl
    unfold m_cellar
    split
    · next h =>
      obtain ⟨v, hv, e⟩ := nat_of_le (n := 5) (N := 5) rfl (by omega) h.2
      refine pV_perh hV (fun u _ => pV_free hV ?_)
      have ev : (q_next tp x 9 7).toNatClampNeg = v := by rw [e]; exact nI_clamp (by omega)
      rw [ev]
      omega
    · exact hV
  unfold m_item
  split
  · next k hk =>
    unfold m_cask
    split
    · exact hV
    · next h8 =>
      have h8' : pN r < 8 := by have := hV.n.2; omega
      have hV1 : pV b (p_comes r (nI k) 0) := pV_comes (v := 0) hV h8' (m_kind_lt hk) (by decide)
      refine pV_and (pV_and (pV_and (pV_perh hV1 ?_) (fun r x h => pV_perh h (fun _ _ => pV_free h (by omega)))) (fun r x h => pV_perh h (fun _ _ => pV_free h (by omega)))) (fun r x h => pV_perh h (fun _ _ => pV_free h (by omega)))
      intro v hv
      obtain ⟨u, hu, rfl⟩ := nat_of_le (n := 5) rfl (by omega) hv
      exact pV_set hV1 h8' (by omega) (fun z => absurd z (by decide)) (fun _ => by omega)
  · split
    · exact hc _ _ (Or.inl rfl)
    · split
      · exact hc _ _ (Or.inr rfl)
      · exact hV
def TXT (x x' : Nat → Rw) : Prop := (∀ k, k ≠ 2 → k ≠ 9 → x' k = x k) ∧ x' 9 0 = x 9 0 ∧ x' 9 1 = 0 ∧ x' 9 3 = x 9 3
theorem TXT_of {r : Rw} {x y : Nat → Rw} (h : KX (m_x0 r x) y) : TXT x (va_up y 9 (upd (y 9) 1 0)) := by
  refine ⟨fun k h2 h9 => ?_, h.2.1, rfl, h.2.2.2⟩
  rw [va_un h9, h.1 k h9]
  unfold m_x0
  rw [va_un h9, va_un h2]

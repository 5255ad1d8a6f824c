/-! READER: parses that are stuck, in the pure -/
theorem TI.fail {tp : Nat} {z : Nat → Rw} (h : TI tp z) : TI tp (failx z) := ⟨h.1.fail, h.2⟩
theorem TI_perh {tp : Nat} {q : Bool} {pl : Nat} {w : Int32} {r : Rw} {z : Nat → Rw} (h : TI tp z) : TI tp (m_perh tp q pl w r z).2.2 := by
  unfold m_perh
  split
  · exact h
  · split
    · exact TI.next h.1.next
    · exact (TI.next h.1).fail
abbrev kw (tp : Nat) (z : Nat → Rw) (k : Nat) : Prop := z 9 4 = 1 ∧ keyX (mB z tp) (frN z) (wN z) k
theorem perh_num {tp pl : Nat} {w : Int32} {r : Rw} {z : Nat → Rw} (h : ¬ OKs tp (s_num tp 0 w r (q_next tp z))) : ¬ OKs tp (m_perh tp true pl w r z) ∧ m_fault (m_perh tp true pl w r z) = m_fault (s_num tp 0 w r (q_next tp z)) := by
  show ¬ OKs tp (if m_num (q_next tp z) 0 w then _ else _) ∧ m_fault (if m_num (q_next tp z) 0 w then _ else _) = _
  unfold s_num at h ⊢
  by_cases hm : m_num (q_next tp z) 0 w
  · rw [if_pos hm] at h
    rw [if_pos hm, if_pos hm]
    exact ⟨fun q => h q, rfl⟩
  · rw [if_neg hm, if_neg hm]
    exact ⟨fun q => absurd q.1 Bool.false_ne_true, rfl⟩
theorem num_ok {tp : Nat} {lo hi : Int32} {r : Rw} {z : Nat → Rw} (h : OKs tp (s_num tp lo hi r z)) : m_num z lo hi ∧ s_num tp lo hi r z = (true, r, q_next tp z) := by
  by_cases hm : m_num z lo hi
  · exact ⟨hm, if_pos hm⟩
  · have e : s_num tp lo hi r z = (false, r, failx z) := if_neg hm
    rw [e] at h
    exact absurd h.1 Bool.false_ne_true
theorem cellar_b {tp pl : Nat} {w : Int32} {r : Rw} {z : Nat → Rw} (hw : w ≤ 999) (h : ¬ OKs tp (s_num tp 0 5 r (q_next tp z))) : ¬ OKs tp (m_cellar tp pl w r z) ∧ m_fault (m_cellar tp pl w r z) = m_fault (s_num tp 0 5 r (q_next tp z)) := by
  unfold m_cellar
  unfold s_num at h ⊢
  by_cases hm : m_num (q_next tp z) 0 5
  · rw [if_pos hm] at h
    rw [if_pos hm, if_pos hm]
    have hb : ¬ good tp (q_next tp (q_next tp z)) := fun g => h ⟨rfl, g⟩
    have e : ∀ p, m_perh tp true p w r (q_next tp z) = (false, r, failx (q_next tp (q_next tp z))) := fun p => if_neg (bad_num hb hw)
    rw [e]
    exact ⟨fun q => absurd q.1 Bool.false_ne_true, fault_f.trans fault_t.symm⟩
  · rw [if_neg hm, if_neg hm]
    exact ⟨fun q => absurd q.1 Bool.false_ne_true, rfl⟩
theorem cellar_t {tp pl v : Nat} {w : Int32} {r : Rw} {z : Nat → Rw} (hm : m_num (q_next tp z) 0 5) (hv : q_next tp z 9 7 = nI v) (hv6 : v < 2 ^ 31) : m_cellar tp pl w r z = m_perh tp true (pl + v) w r (q_next tp z) := by
  unfold m_cellar
  rw [if_pos hm, hv, nI_clamp hv6]
theorem kw_9 {tp : Nat} {z : Nat → Rw} (h : TI tp z) : kw tp z 9 ↔ m_in tp z := by
  by_cases h4 : z 9 4 = 1
  · exact ⟨fun q => (key_9 h h4).mpr q.2, fun q => ⟨h4, (key_9 h h4).mp q⟩⟩
  · exact ⟨fun q => absurd q.1 h4, fun q => absurd q (nkey_9 h4)⟩
theorem m_c1_kw {tp n : Nat} {r : Rw} {z : Nat → Rw} (h : TI tp z) : m_perh tp (decide (kw tp z 9)) (16 + 7 * n + 1) 5 r z = m_c1 tp n r z := by
  unfold m_c1
  rw [decide_eq_decide.mpr (kw_9 h)]
theorem c1_bad {tp n : Nat} {r : Rw} {z : Nat → Rw} (h : ¬ good tp z) (ht : TI tp z) : m_c1 tp n r z = (true, r, z) := by
  unfold m_c1
  exact perh_f (bad_9 h ht)
theorem kw_10 {tp : Nat} {z : Nat → Rw} (h : TI tp z) : kw tp z 10 ↔ m_4 tp z 112 101 97 108 := by
  by_cases h4 : z 9 4 = 1
  · exact ⟨fun q => (key_10 h h4).mpr q.2, fun q => ⟨h4, (key_10 h h4).mp q⟩⟩
  · exact ⟨fun q => absurd q.1 h4, fun q => absurd q (nkey_10 h4)⟩
theorem m_c2_kw {tp n : Nat} {r : Rw} {z : Nat → Rw} (h : TI tp z) : m_perh tp (decide (kw tp z 10)) (16 + 7 * n + 2) 999 r z = m_c2 tp n r z := by
  unfold m_c2
  rw [decide_eq_decide.mpr (kw_10 h)]
theorem c2_bad {tp n : Nat} {r : Rw} {z : Nat → Rw} (h : ¬ good tp z) (ht : TI tp z) : m_c2 tp n r z = (true, r, z) := by
  unfold m_c2
  exact perh_f (bad_10 h ht)
theorem kw_11 {tp : Nat} {z : Nat → Rw} (h : TI tp z) : kw tp z 11 ↔ m_5 tp z 112 105 116 99 104 := by
  by_cases h4 : z 9 4 = 1
  · exact ⟨fun q => (key_11 h h4).mpr q.2, fun q => ⟨h4, (key_11 h h4).mp q⟩⟩
  · exact ⟨fun q => absurd q.1 h4, fun q => absurd q (nkey_11 h4)⟩
theorem m_c3_kw {tp n : Nat} {r : Rw} {z : Nat → Rw} (h : TI tp z) : m_perh tp (decide (kw tp z 11)) (16 + 7 * n + 3) 11 r z = m_c3 tp n r z := by
  unfold m_c3
  rw [decide_eq_decide.mpr (kw_11 h)]
theorem c3_bad {tp n : Nat} {r : Rw} {z : Nat → Rw} (h : ¬ good tp z) (ht : TI tp z) : m_c3 tp n r z = (true, r, z) := by
  unfold m_c3
  exact perh_f (bad_11 h ht)
theorem kw_12 {tp : Nat} {z : Nat → Rw} (h : TI tp z) : kw tp z 12 ↔ m_5 tp z 104 111 111 112 115 := by
  by_cases h4 : z 9 4 = 1
  · exact ⟨fun q => (key_12 h h4).mpr q.2, fun q => ⟨h4, (key_12 h h4).mp q⟩⟩
  · exact ⟨fun q => absurd q.1 h4, fun q => absurd q (nkey_12 h4)⟩
theorem m_c4_kw {tp n : Nat} {r : Rw} {z : Nat → Rw} (h : TI tp z) : m_perh tp (decide (kw tp z 12)) (16 + 7 * n + 4) 999 r z = m_c4 tp n r z := by
  unfold m_c4
  rw [decide_eq_decide.mpr (kw_12 h)]
theorem c4_bad {tp n : Nat} {r : Rw} {z : Nat → Rw} (h : ¬ good tp z) (ht : TI tp z) : m_c4 tp n r z = (true, r, z) := by
  unfold m_c4
  exact perh_f (bad_12 h ht)
theorem chain_1 {tp n : Nat} {r : Rw} {z : Nat → Rw} (ht : TI tp z) (h : ¬ OKs tp (m_c1 tp n r z)) : m_chain tp n r z = m_c1 tp n r z := by
  have hT : TI tp (m_c1 tp n r z).2.2 := TI_perh ht
  have e1 : m_and (m_c1 tp n r z) (m_c2 tp n) = m_c1 tp n r z := and_bad h (fun r' z' hb he => c2_bad hb (he ▸ hT))
  have e2 : m_and (m_c1 tp n r z) (m_c3 tp n) = m_c1 tp n r z := and_bad h (fun r' z' hb he => c3_bad hb (he ▸ hT))
  have e3 : m_and (m_c1 tp n r z) (m_c4 tp n) = m_c1 tp n r z := and_bad h (fun r' z' hb he => c4_bad hb (he ▸ hT))
  unfold m_chain
  rw [e1, e2, e3]
theorem chain_2 {tp n : Nat} {r : Rw} {z : Nat → Rw} {s1 : Ps} (e : m_c1 tp n r z = s1) (h1 : s1.1 = true) (ht : TI tp s1.2.2) (h : ¬ OKs tp (m_c2 tp n s1.2.1 s1.2.2)) : m_chain tp n r z = m_c2 tp n s1.2.1 s1.2.2 := by
  have hT : TI tp (m_c2 tp n s1.2.1 s1.2.2).2.2 := TI_perh ht
  have e2 : m_and (m_c2 tp n s1.2.1 s1.2.2) (m_c3 tp n) = m_c2 tp n s1.2.1 s1.2.2 := and_bad h (fun r' z' hb he => c3_bad hb (he ▸ hT))
  have e3 : m_and (m_c2 tp n s1.2.1 s1.2.2) (m_c4 tp n) = m_c2 tp n s1.2.1 s1.2.2 := and_bad h (fun r' z' hb he => c4_bad hb (he ▸ hT))
  unfold m_chain
  rw [e, mc_t h1, e2, e3]
theorem chain_3 {tp n : Nat} {r : Rw} {z : Nat → Rw} {s1 s2 : Ps} (e : m_c1 tp n r z = s1) (h1 : s1.1 = true) (e2 : m_c2 tp n s1.2.1 s1.2.2 = s2) (h2 : s2.1 = true) (ht : TI tp s2.2.2) (h : ¬ OKs tp (m_c3 tp n s2.2.1 s2.2.2)) : m_chain tp n r z = m_c3 tp n s2.2.1 s2.2.2 := by
  have hT : TI tp (m_c3 tp n s2.2.1 s2.2.2).2.2 := TI_perh ht
  have e3 : m_and (m_c3 tp n s2.2.1 s2.2.2) (m_c4 tp n) = m_c3 tp n s2.2.1 s2.2.2 := and_bad h (fun r' z' hb he => c4_bad hb (he ▸ hT))
  unfold m_chain
  rw [e, mc_t h1, e2, mc_t h2, e3]
theorem chain_4 {tp n : Nat} {r : Rw} {z : Nat → Rw} {s1 s2 s3 : Ps} (e : m_c1 tp n r z = s1) (h1 : s1.1 = true) (e2 : m_c2 tp n s1.2.1 s1.2.2 = s2) (h2 : s2.1 = true) (e3 : m_c3 tp n s2.2.1 s2.2.2 = s3) (h3 : s3.1 = true) : m_chain tp n r z = m_c4 tp n s3.2.1 s3.2.2 := by
  unfold m_chain
  rw [e, mc_t h1, e2, mc_t h2, e3, mc_t h3]
theorem item_k {tp k : Nat} {r : Rw} {z : Nat → Rw} (ht : TI tp z) (h4 : z 9 4 = 1) (hk : k < 13) (hX : keyX (mB z tp) (frN z) (wN z) k) : m_item tp r z = if k < 7 then m_cask tp (nI k) r z else if k = 7 then m_cellar tp 10 99 r z else if k = 8 then m_cellar tp 4 9 r z else (false, r, failx z) := by
  unfold m_item
  rcases (show k = 0 ∨ k = 1 ∨ k = 2 ∨ k = 3 ∨ k = 4 ∨ k = 5 ∨ k = 6 ∨ k = 7 ∨ k = 8 ∨ k = 9 ∨ k = 10 ∨ k = 11 ∨ k = 12 by omega) with e | e | e | e | e | e | e | e | e | e | e | e | e <;> subst e
  · rw [show m_kind tp z = some 0 by unfold m_kind; rw [if_pos ((key_0 ht h4).mpr hX)]]
    rfl
  · rw [show m_kind tp z = some 1 by unfold m_kind; rw [if_neg (fun q => absurd (keyX_one hk (by decide) hX ((key_0 ht h4).mp q)) (by decide)), if_pos ((key_1 ht h4).mpr hX)]]
    rfl
  · rw [show m_kind tp z = some 2 by unfold m_kind; rw [if_neg (fun q => absurd (keyX_one hk (by decide) hX ((key_0 ht h4).mp q)) (by decide)), if_neg (fun q => absurd (keyX_one hk (by decide) hX ((key_1 ht h4).mp q)) (by decide)), if_pos ((key_2 ht h4).mpr hX)]]
    rfl
  · rw [show m_kind tp z = some 3 by unfold m_kind; rw [if_neg (fun q => absurd (keyX_one hk (by decide) hX ((key_0 ht h4).mp q)) (by decide)), if_neg (fun q => absurd (keyX_one hk (by decide) hX ((key_1 ht h4).mp q)) (by decide)), if_neg (fun q => absurd (keyX_one hk (by decide) hX ((key_2 ht h4).mp q)) (by decide)), if_pos ((key_3 ht h4).mpr hX)]]
    rfl
  · rw [show m_kind tp z = some 4 by unfold m_kind; rw [if_neg (fun q => absurd (keyX_one hk (by decide) hX ((key_0 ht h4).mp q)) (by decide)), if_neg (fun q => absurd (keyX_one hk (by decide) hX ((key_1 ht h4).mp q)) (by decide)), if_neg (fun q => absurd (keyX_one hk (by decide) hX ((key_2 ht h4).mp q)) (by decide)), if_neg (fun q => absurd (keyX_one hk (by decide) hX ((key_3 ht h4).mp q)) (by decide)), if_pos ((key_4 ht h4).mpr hX)]]
    rfl
  · rw [show m_kind tp z = some 5 by unfold m_kind; rw [if_neg (fun q => absurd (keyX_one hk (by decide) hX ((key_0 ht h4).mp q)) (by decide)), if_neg (fun q => absurd (keyX_one hk (by decide) hX ((key_1 ht h4).mp q)) (by decide)), if_neg (fun q => absurd (keyX_one hk (by decide) hX ((key_2 ht h4).mp q)) (by decide)), if_neg (fun q => absurd (keyX_one hk (by decide) hX ((key_3 ht h4).mp q)) (by decide)), if_neg (fun q => absurd (keyX_one hk (by decide) hX ((key_4 ht h4).mp q)) (by decide)), if_pos ((key_5 ht h4).mpr hX)]]
    rfl
  · rw [show m_kind tp z = some 6 by unfold m_kind; rw [if_neg (fun q => absurd (keyX_one hk (by decide) hX ((key_0 ht h4).mp q)) (by decide)), if_neg (fun q => absurd (keyX_one hk (by decide) hX ((key_1 ht h4).mp q)) (by decide)), if_neg (fun q => absurd (keyX_one hk (by decide) hX ((key_2 ht h4).mp q)) (by decide)), if_neg (fun q => absurd (keyX_one hk (by decide) hX ((key_3 ht h4).mp q)) (by decide)), if_neg (fun q => absurd (keyX_one hk (by decide) hX ((key_4 ht h4).mp q)) (by decide)), if_neg (fun q => absurd (keyX_one hk (by decide) hX ((key_5 ht h4).mp q)) (by decide)), if_pos ((key_6 ht h4).mpr hX)]]
    rfl
  · rw [show m_kind tp z = none by unfold m_kind; rw [if_neg (fun q => absurd (keyX_one hk (by decide) hX ((key_0 ht h4).mp q)) (by decide)), if_neg (fun q => absurd (keyX_one hk (by decide) hX ((key_1 ht h4).mp q)) (by decide)), if_neg (fun q => absurd (keyX_one hk (by decide) hX ((key_2 ht h4).mp q)) (by decide)), if_neg (fun q => absurd (keyX_one hk (by decide) hX ((key_3 ht h4).mp q)) (by decide)), if_neg (fun q => absurd (keyX_one hk (by decide) hX ((key_4 ht h4).mp q)) (by decide)), if_neg (fun q => absurd (keyX_one hk (by decide) hX ((key_5 ht h4).mp q)) (by decide)), if_neg (fun q => absurd (keyX_one hk (by decide) hX ((key_6 ht h4).mp q)) (by decide))]]
    simp only []
    rw [if_pos ((key_7 ht h4).mpr hX)]; rfl
  · rw [show m_kind tp z = none by unfold m_kind; rw [if_neg (fun q => absurd (keyX_one hk (by decide) hX ((key_0 ht h4).mp q)) (by decide)), if_neg (fun q => absurd (keyX_one hk (by decide) hX ((key_1 ht h4).mp q)) (by decide)), if_neg (fun q => absurd (keyX_one hk (by decide) hX ((key_2 ht h4).mp q)) (by decide)), if_neg (fun q => absurd (keyX_one hk (by decide) hX ((key_3 ht h4).mp q)) (by decide)), if_neg (fun q => absurd (keyX_one hk (by decide) hX ((key_4 ht h4).mp q)) (by decide)), if_neg (fun q => absurd (keyX_one hk (by decide) hX ((key_5 ht h4).mp q)) (by decide)), if_neg (fun q => absurd (keyX_one hk (by decide) hX ((key_6 ht h4).mp q)) (by decide))]]
    simp only []
    rw [if_neg (fun q => absurd (keyX_one hk (by decide) hX ((key_7 ht h4).mp q)) (by decide)), if_pos ((key_8 ht h4).mpr hX)]; rfl
  · rw [show m_kind tp z = none by unfold m_kind; rw [if_neg (fun q => absurd (keyX_one hk (by decide) hX ((key_0 ht h4).mp q)) (by decide)), if_neg (fun q => absurd (keyX_one hk (by decide) hX ((key_1 ht h4).mp q)) (by decide)), if_neg (fun q => absurd (keyX_one hk (by decide) hX ((key_2 ht h4).mp q)) (by decide)), if_neg (fun q => absurd (keyX_one hk (by decide) hX ((key_3 ht h4).mp q)) (by decide)), if_neg (fun q => absurd (keyX_one hk (by decide) hX ((key_4 ht h4).mp q)) (by decide)), if_neg (fun q => absurd (keyX_one hk (by decide) hX ((key_5 ht h4).mp q)) (by decide)), if_neg (fun q => absurd (keyX_one hk (by decide) hX ((key_6 ht h4).mp q)) (by decide))]]
    simp only []
    rw [if_neg (fun q => absurd (keyX_one hk (by decide) hX ((key_7 ht h4).mp q)) (by decide)), if_neg (fun q => absurd (keyX_one hk (by decide) hX ((key_8 ht h4).mp q)) (by decide))]; rfl
  · rw [show m_kind tp z = none by unfold m_kind; rw [if_neg (fun q => absurd (keyX_one hk (by decide) hX ((key_0 ht h4).mp q)) (by decide)), if_neg (fun q => absurd (keyX_one hk (by decide) hX ((key_1 ht h4).mp q)) (by decide)), if_neg (fun q => absurd (keyX_one hk (by decide) hX ((key_2 ht h4).mp q)) (by decide)), if_neg (fun q => absurd (keyX_one hk (by decide) hX ((key_3 ht h4).mp q)) (by decide)), if_neg (fun q => absurd (keyX_one hk (by decide) hX ((key_4 ht h4).mp q)) (by decide)), if_neg (fun q => absurd (keyX_one hk (by decide) hX ((key_5 ht h4).mp q)) (by decide)), if_neg (fun q => absurd (keyX_one hk (by decide) hX ((key_6 ht h4).mp q)) (by decide))]]
    simp only []
    rw [if_neg (fun q => absurd (keyX_one hk (by decide) hX ((key_7 ht h4).mp q)) (by decide)), if_neg (fun q => absurd (keyX_one hk (by decide) hX ((key_8 ht h4).mp q)) (by decide))]; rfl
  · rw [show m_kind tp z = none by unfold m_kind; rw [if_neg (fun q => absurd (keyX_one hk (by decide) hX ((key_0 ht h4).mp q)) (by decide)), if_neg (fun q => absurd (keyX_one hk (by decide) hX ((key_1 ht h4).mp q)) (by decide)), if_neg (fun q => absurd (keyX_one hk (by decide) hX ((key_2 ht h4).mp q)) (by decide)), if_neg (fun q => absurd (keyX_one hk (by decide) hX ((key_3 ht h4).mp q)) (by decide)), if_neg (fun q => absurd (keyX_one hk (by decide) hX ((key_4 ht h4).mp q)) (by decide)), if_neg (fun q => absurd (keyX_one hk (by decide) hX ((key_5 ht h4).mp q)) (by decide)), if_neg (fun q => absurd (keyX_one hk (by decide) hX ((key_6 ht h4).mp q)) (by decide))]]
    simp only []
    rw [if_neg (fun q => absurd (keyX_one hk (by decide) hX ((key_7 ht h4).mp q)) (by decide)), if_neg (fun q => absurd (keyX_one hk (by decide) hX ((key_8 ht h4).mp q)) (by decide))]; rfl
  · rw [show m_kind tp z = none by unfold m_kind; rw [if_neg (fun q => absurd (keyX_one hk (by decide) hX ((key_0 ht h4).mp q)) (by decide)), if_neg (fun q => absurd (keyX_one hk (by decide) hX ((key_1 ht h4).mp q)) (by decide)), if_neg (fun q => absurd (keyX_one hk (by decide) hX ((key_2 ht h4).mp q)) (by decide)), if_neg (fun q => absurd (keyX_one hk (by decide) hX ((key_3 ht h4).mp q)) (by decide)), if_neg (fun q => absurd (keyX_one hk (by decide) hX ((key_4 ht h4).mp q)) (by decide)), if_neg (fun q => absurd (keyX_one hk (by decide) hX ((key_5 ht h4).mp q)) (by decide)), if_neg (fun q => absurd (keyX_one hk (by decide) hX ((key_6 ht h4).mp q)) (by decide))]]
    simp only []
    rw [if_neg (fun q => absurd (keyX_one hk (by decide) hX ((key_7 ht h4).mp q)) (by decide)), if_neg (fun q => absurd (keyX_one hk (by decide) hX ((key_8 ht h4).mp q)) (by decide))]; rfl
theorem item_n {tp : Nat} {r : Rw} {z : Nat → Rw} (h4 : ¬ z 9 4 = 1) : m_item tp r z = (false, r, failx z) := by
  unfold m_item
  rw [show m_kind tp z = none by unfold m_kind; rw [if_neg (nkey_0 h4), if_neg (nkey_1 h4), if_neg (nkey_2 h4), if_neg (nkey_3 h4), if_neg (nkey_4 h4), if_neg (nkey_5 h4), if_neg (nkey_6 h4)]]
  simp only []
  rw [if_neg (nkey_7 h4), if_neg (nkey_8 h4)]
set_option maxHeartbeats 4000000 in
set_option maxRecDepth 100000 in
theorem k2_isWord (l : Launch) (t : CT) (r : Rw) (x : Nat → Rw) (w : Nat) (tp : Nat) (z : Nat → Rw) (hd : RD tp z (x 10)) (hw : w < 13) : Met l yX2_isWord (ws_ yX2_isWord cX2_isWord 2 (some .boolean)) (rmF 0) (va_Pc [.ref (t.2.1 1), .int (nI w)] (fun U => cK t U ∧ cX t r x U.heap)) (kR (some (.int (b2i (kw tp z w))))) 0 0 (fun _ => False) := by
  refine kk_start (by decide) (Nat.le_of_ble_eq_true rfl) ?_
  intro p e s m below meth c S hr hlk hin hB ls hl
  obtain ⟨hK, hP⟩ := hB
  have hx := S.1
  have hb := S.2.1
  have hown : s.vm.findClass RX2 = some m.cls := S.2.2.2.1
  have hts := S.2.2.2.2
  have hl : lv_has ls 2 [(0, .ref (t.2.1 1)), (1, .int ((nI w)))] := hl
  refine lv_aload_n hx hb dX2_isWord_0 rfl (lv_at hl 0 rfl) ?_
  refine rg_token S hK hP dX2_isWord_1 ?_
  refine lv_iconst (v := 2) hx hb dX2_isWord_4 (by decide) ?_
  refine lv_icmp_ne (tgt := 20) hx hb dX2_isWord_5 (by decide) (fun c_5 => ?_) (fun c_5 => ?_)
  · skip
    refine lv_iconst (v := 0) hx hb dX2_isWord_20 (by decide) ?_
    exact kk_zfR S hr hlk rfl rfl (fun q => c_5 ((hd.word hw).mpr q).1) dX2_isWord_21
  · skip
    refine lv_aload_n hx hb dX2_isWord_8 rfl (lv_at hl 0 rfl) ?_
    refine rg_value S hK hP dX2_isWord_9 ?_
    refine lv_iload_n hx hb dX2_isWord_12 rfl (lv_at hl 1 rfl) ?_
    refine lv_icmp_ne (tgt := 20) hx hb dX2_isWord_13 (by decide) (fun c_13 => ?_) (fun c_13 => ?_)
    · skip
      refine lv_iconst (v := 0) hx hb dX2_isWord_20 (by decide) ?_
      exact kk_zfR S hr hlk rfl rfl (fun q => c_13 ((hd.word hw).mpr q).2) dX2_isWord_21
    · skip
      refine lv_iconst (v := 1) hx hb dX2_isWord_16 (by decide) ?_
      refine lv_goto (tgt := 21) hx hb dX2_isWord_17 (by decide) ?_
      exact kk_ztR S hr hlk rfl rfl ((hd.word hw).mp ⟨c_5, c_13⟩) dX2_isWord_21
section CC
variable {p : Program} {l : Launch} {e : Env} {R : Room} {s : State} {m : MethodId} {args : Array Value} {below : List Frame} {meth : Method} {c : Code} {H H0 : Heap} {locs : List Loc} {cells slots : Nat} {Q : State → Prop}
variable {cc : ByteArray} {pc nL : Nat} {ls : Array Slot} {rest : List Value} {t : CT} {r : Rw} {x : Nat → Rw}
theorem rc_isWord (S : CallFix p m c cc nL s args lw_all RX2) (hK : cK t s) (hP : cX t r x H) (hR : kRm R 1 cells slots) (hsz : ls.size = nL) (w : Nat) (tp : Nat) (z : Nat → Rw) (hd : RD tp z (x 10)) (hw : w < 13) {i0 : Int32} (e0 : i0 = nI w) (hrest : (rest.map fun v => v.category).sum ≤ 8) (hdg : decode cc pc = .ok (.invokevirtual 89, 3)) (kk : W p l e R s m args below meth c H locs cells slots Q (F0 m (pc + 3) ls (.int (b2i (kw tp z w)) :: rest))) : W p l e R s m args below meth c H locs cells slots Q (F0 m pc ls (.int i0 :: .ref (t.2.1 1) :: rest)) := by
  subst e0
  exact kk_Ri (W.runV (As := [.int (nI w)]) (rest := rest) S (k2_isWord l t r x w tp z hd hw) (cwV 1 S.2.2.2.2 (lw_V q1122 q1124 qs50 q106 q1125) rfl rfl rfl (by decide +kernel) ⟨hR.1, by have := hR.2.1; show 8 + (2 + 11) + 38 * 0 ≤ R.locals; omega⟩) ⟨c_blind, c_recvR hK hP, c_pre hK hP⟩ rfl rfl hsz rfl (lv_room hrest) hdg ⟨hR.2.2.1, hR.2.2.2⟩) kk
end CC
set_option maxHeartbeats 4000000 in
set_option maxRecDepth 100000 in
theorem k2_number (l : Launch) (t : CT) (r : Rw) (x : Nat → Rw) (κ : Nat × Nat × Nat) (hA : ∀ q, cA t q → κ.2.2 ≤ q) (lo : Int32) (hi : Int32) (tp : Nat) (z : Nat → Rw) (hpi : PI tp z) (htz : tpe z x) (hd : RD tp z (x 10)) : MetX l yX2_number (ws_ yX2_number cX2_number 4 (some .int)) (rmF 7) (va_Pc [.ref (t.2.1 1), .int lo, .int hi] (fun U => cK t U ∧ cX t r x U.heap ∧ kS κ U U.heap)) (kP t r x tp (s_num tp lo hi (x 2) z) (some (.int (z 9 7)))) 0 0 (cA t) := by
  refine kk_startX (by decide) (Nat.le_of_ble_eq_true rfl) ?_
  intro p e s m below meth c S hr hlk hin hB ls hl
  obtain ⟨hK, hP⟩ := hB
  have hx := S.1
  have hb := S.2.1
  have hown : s.vm.findClass RX2 = some m.cls := S.2.2.2.1
  have hts := S.2.2.2.2
  have hS : va_S (cA t) s.heap s.heap [] := va_S.rf
  have hl : lv_has ls 4 [(0, .ref (t.2.1 1)), (1, .int (lo)), (2, .int (hi))] := hl
  obtain ⟨hP, hE⟩ := hP
  have hu0 := hd.1
  refine lv_aload_n hx hb dX2_number_0 rfl (lv_at hl 0 rfl) ?_
  refine lv_aload_n hx hb dX2_number_1 rfl (lv_at hl 0 rfl) ?_
  refine rg_token S hK hP dX2_number_2 ?_
  refine lv_iconst (v := 1) hx hb dX2_number_5 (by decide) ?_
  refine lv_icmp_ne (tgt := 25) hx hb dX2_number_6 (by decide) (fun c_6 => ?_) (fun c_6 => ?_)
  · skip
    refine lv_iconst (v := 0) hx hb dX2_number_25 (by decide) ?_
    refine rc_need0 S hK hP hS (rm_ok (Nat.le_of_ble_eq_true rfl)) hl.1 (Nat.le_of_ble_eq_true rfl) dX2_number_26 (fun H locs hP hS => ?_)
    have hnm : ¬ m_num z lo hi := fun q => c_6 (hd.num.mpr q).1
    rw [show s_num tp lo hi (x 2) z = (false, x 2, failx z) from if_neg hnm]
    exact kp_out (o := (false, x 2, failx z)) hin hlk hS (fun q => absurd q.1 Bool.false_ne_true) (xR.rf x) hd.2.2.1 hP
  · skip
    refine lv_aload_n hx hb dX2_number_9 rfl (lv_at hl 0 rfl) ?_
    refine rg_value S hK hP dX2_number_10 ?_
    refine lv_iload_n hx hb dX2_number_13 rfl (lv_at hl 1 rfl) ?_
    refine lv_iload_n hx hb dX2_number_14 rfl (lv_at hl 2 rfl) ?_
    refine cc_in_X2 S hK (rm_ok (Nat.le_of_ble_eq_true rfl)) hl.1 (Nat.le_of_ble_eq_true rfl) dX2_number_15 ?_
    refine kb_ifeq (tgt := 25) S dX2_number_18 (by decide) (fun c_18 => ?_) (fun c_18 => ?_)
    · skip
      refine lv_iconst (v := 0) hx hb dX2_number_25 (by decide) ?_
      refine rc_need0 S hK hP hS (rm_ok (Nat.le_of_ble_eq_true rfl)) hl.1 (Nat.le_of_ble_eq_true rfl) dX2_number_26 (fun H locs hP hS => ?_)
      have hnm : ¬ m_num z lo hi := fun q => c_18 (hd.num.mpr q).2
      rw [show s_num tp lo hi (x 2) z = (false, x 2, failx z) from if_neg hnm]
      exact kp_out (o := (false, x 2, failx z)) hin hlk hS (fun q => absurd q.1 Bool.false_ne_true) (xR.rf x) hd.2.2.1 hP
    · skip
      refine lv_iconst (v := 1) hx hb dX2_number_21 (by decide) ?_
      refine lv_goto (tgt := 26) hx hb dX2_number_22 (by decide) ?_
      refine rc_need1 S hK hP hS (rm_ok (Nat.le_of_ble_eq_true rfl)) hl.1 (Nat.le_of_ble_eq_true rfl) dX2_number_26 (fun H locs hP hS => ?_)
      have hm : m_num z lo hi := hd.num.mp ⟨c_6, c_18⟩
      rw [show s_num tp lo hi (x 2) z = (true, x 2, q_next tp z) from if_pos hm]
      refine lv_aload_n hx hb dX2_number_29 rfl (lv_at hl 0 rfl) ?_
      refine rg_value S hK hP dX2_number_30 ?_
      refine lv_istore_n (lv' := [(3, .int (x 10 4)), (0, .ref (t.2.1 1)), (1, .int (lo)), (2, .int (hi))]) hx hb dX2_number_33 rfl hl (by decide) rfl (fun ls hl => ?_)
      refine lv_aload_n hx hb dX2_number_34 rfl (lv_at hl 1 rfl) ?_
      refine rc_next S hK hP (hE.keep hA hS) hA hS (rm_ok (Nat.le_of_ble_eq_true rfl)) hl.1 (tp) (z) hpi hu0 htz hd.2.1 (Nat.le_of_ble_eq_true rfl) dX2_number_35 (fun ho_35 x_35 H locs hx_35 hd_35 h2_35 hP hS => ?_) (fun ho_35 x_35 H locs hx_35 hf_35 hP hS => ?_)
      · skip
        refine lv_iload_n hx hb dX2_number_38 rfl (lv_at hl 0 rfl) ?_
        exact kp_iret (o := (true, x 2, q_next tp z)) S hr hlk hS ho_35 hx_35 hd_35 h2_35 hP (hd.v hm) dX2_number_39
      · skip
        exact kp_out (o := (true, x 2, q_next tp z)) hin hlk hS ho_35 hx_35 hf_35 hP
section CC
variable {p : Program} {l : Launch} {e : Env} {R : Room} {s : State} {m : MethodId} {args : Array Value} {below : List Frame} {meth : Method} {c : Code} {H H0 : Heap} {locs : List Loc} {cells slots : Nat} {Q : State → Prop}
variable {cc : ByteArray} {pc nL : Nat} {ls : Array Slot} {rest : List Value} {t : CT} {r : Rw} {x : Nat → Rw}
theorem rc_number {κ : Nat × Nat × Nat} (S : CallFix p m c cc nL s args lw_all RX2) (hK : cK t s) (hP : cX t r x H) (hE : kS κ s H) (hA : ∀ q, cA t q → κ.2.2 ≤ q) (hS : va_S (cA t) H0 H locs) (hR : kRm R 8 cells slots) (hsz : ls.size = nL) {lo : Int32} {hi : Int32} (tp : Nat) (z : Nat → Rw) (hpi : PI tp z) (htz : tpe z x) (hd : RD tp z (x 10)) (hrest : (rest.map fun v => v.category).sum ≤ 8) (hdg : decode cc pc = .ok (.invokevirtual 85, 3)) (kr : OKs tp (s_num tp lo hi (x 2) z) → ∀ (x' : Nat → Rw) (H1 : Heap) (locs1 : List Loc), xR x x' → RD tp (s_num tp lo hi (x 2) z).2.2 (x' 10) → x' 2 = (s_num tp lo hi (x 2) z).2.1 → cX t r x' H1 → va_S (cA t) H0 H1 locs1 → W p l e R s m args below meth c H1 locs1 cells slots Q (F0 m (pc + 3) ls (.int (z 9 7) :: rest))) (kt : ¬ OKs tp (s_num tp lo hi (x 2) z) → ∀ (x' : Nat → Rw) (H1 : Heap) (locs1 : List Loc), xR x x' → x' 10 2 = m_fault (s_num tp lo hi (x 2) z) → cX t r x' H1 → va_S (cA t) H0 H1 locs1 → WT p l e R s m args below meth c H1 locs1 cells slots Q (F0 m pc ls rest) (t.2.1 3)) : W p l e R s m args below meth c H locs cells slots Q (F0 m pc ls (.int hi :: .int lo :: .ref (t.2.1 1) :: rest)) := by
  exact kk_P (W.runX (As := [.int lo, .int hi]) (rest := rest) (maxL := 4) S (k2_number l t r x κ hA lo hi tp z hpi htz hd) rfl rfl hR.1 (by have := hR.2.1; show 8 + (4 + 11) + 38 * 7 ≤ R.locals; omega) (pay_in S.2.2.2.2 (lw_meth q1113)) (fun U hW => LocX.code (pay_in S.2.2.2.2 (lw_meth q1113) _ List.mem_cons_self #[] U hW)) (S.2.2.2.2 _ q106) ⟨by decide, by decide⟩ (show (parseMethodDescriptor yX2_number.desc).map (fun d => d.parameters.length) = some 2 from by decide +kernel) (S.2.2.2.2 _ q1110) (S.2.2.2.2 _ q1112) (S.2.2.2.2 _ qs47) ⟨sR_blind, c_recvR hK hP, sR_pre hK hP hE⟩ rfl hsz rfl (lv_room hrest) hdg ⟨hR.2.2.1, hR.2.2.2⟩) hS (fun _ h => h) kr kt
end CC
set_option maxHeartbeats 4000000 in
set_option maxRecDepth 100000 in
theorem k2_behind (l : Launch) (t : CT) (r : Rw) (x : Nat → Rw) (κ : Nat × Nat × Nat) (hA : ∀ q, cA t q → κ.2.2 ≤ q) (lo : Int32) (hi : Int32) (tp : Nat) (z : Nat → Rw) (hpi : PI tp z) (hu0 : x 10 0 = nI tp) (htz : tpe z x) (hat : x 10 1 = z 9 6) (hh : hi ≤ 999) : MetX l yX2_behind (ws_ yX2_behind cX2_behind 3 (some .int)) (rmF 8) (va_Pc [.ref (t.2.1 1), .int lo, .int hi] (fun U => cK t U ∧ cX t r x U.heap ∧ kS κ U U.heap)) (kP t r x tp (s_num tp lo hi (x 2) (q_next tp z)) (some (.int ((q_next tp z) 9 7)))) 0 0 (cA t) := by
  refine kk_startX (by decide) (Nat.le_of_ble_eq_true rfl) ?_
  intro p e s m below meth c S hr hlk hin hB ls hl
  obtain ⟨hK, hP⟩ := hB
  have hx := S.1
  have hb := S.2.1
  have hown : s.vm.findClass RX2 = some m.cls := S.2.2.2.1
  have hts := S.2.2.2.2
  have hS : va_S (cA t) s.heap s.heap [] := va_S.rf
  have hl : lv_has ls 3 [(0, .ref (t.2.1 1)), (1, .int (lo)), (2, .int (hi))] := hl
  obtain ⟨hP, hE⟩ := hP
  refine lv_aload_n hx hb dX2_behind_0 rfl (lv_at hl 0 rfl) ?_
  refine rc_next S hK hP (hE.keep hA hS) hA hS (rm_ok (Nat.le_of_ble_eq_true rfl)) hl.1 (tp) (z) hpi hu0 htz hat (Nat.le_of_ble_eq_true rfl) dX2_behind_1 (fun ho_1 x_1 H locs hx_1 hd_1 h2_1 hP hS => ?_) (fun ho_1 x_1 H locs hx_1 hf_1 hP hS => ?_)
  · skip
    refine lv_aload_n hx hb dX2_behind_4 rfl (lv_at hl 0 rfl) ?_
    refine lv_iload_n hx hb dX2_behind_5 rfl (lv_at hl 1 rfl) ?_
    refine lv_iload_n hx hb dX2_behind_6 rfl (lv_at hl 2 rfl) ?_
    refine rc_number S hK hP (hE.keep hA hS) hA hS (rm_ok (Nat.le_of_ble_eq_true rfl)) hl.1 (tp) ((q_next tp z)) hpi.next ((htz.r hx_1).z rfl) hd_1 (Nat.le_of_ble_eq_true rfl) dX2_behind_7 (fun ho_7 x_7 H locs hx_7 hd_7 h2_7 hP hS => ?_) (fun ho_7 x_7 H locs hx_7 hf_7 hP hS => ?_)
    · skip
      rw [show x_1 2 = x 2 from h2_1] at ho_7 hd_7 h2_7
      exact kp_iret (o := (s_num tp lo hi (x 2) (q_next tp z))) S hr hlk hS ho_7 (hx_1.tr hx_7) hd_7 h2_7 hP rfl dX2_behind_10
    · skip
      rw [show x_1 2 = x 2 from h2_1] at ho_7 hf_7
      exact kp_out (o := (s_num tp lo hi (x 2) (q_next tp z))) hin hlk hS ho_7 (hx_1.tr hx_7) hf_7 hP
  · skip
    have hng : ¬ good tp (q_next tp z) := fun g => ho_1 ⟨rfl, g⟩
    rw [show s_num tp lo hi (x 2) (q_next tp z) = (false, x 2, failx (q_next tp z)) from if_neg (bad_num hng hh)]
    exact kp_out (o := (false, x 2, failx (q_next tp z))) hin hlk hS (fun q => absurd q.1 Bool.false_ne_true) hx_1 hf_1 hP
section CC
variable {p : Program} {l : Launch} {e : Env} {R : Room} {s : State} {m : MethodId} {args : Array Value} {below : List Frame} {meth : Method} {c : Code} {H H0 : Heap} {locs : List Loc} {cells slots : Nat} {Q : State → Prop}
variable {cc : ByteArray} {pc nL : Nat} {ls : Array Slot} {rest : List Value} {t : CT} {r : Rw} {x : Nat → Rw}
theorem rc_behind {κ : Nat × Nat × Nat} (S : CallFix p m c cc nL s args lw_all RX2) (hK : cK t s) (hP : cX t r x H) (hE : kS κ s H) (hA : ∀ q, cA t q → κ.2.2 ≤ q) (hS : va_S (cA t) H0 H locs) (hR : kRm R 9 cells slots) (hsz : ls.size = nL) {lo : Int32} {hi : Int32} (tp : Nat) (z : Nat → Rw) (hpi : PI tp z) (hu0 : x 10 0 = nI tp) (htz : tpe z x) (hat : x 10 1 = z 9 6) (hh : hi ≤ 999) (hrest : (rest.map fun v => v.category).sum ≤ 8) (hdg : decode cc pc = .ok (.invokevirtual 99, 3)) (kr : OKs tp (s_num tp lo hi (x 2) (q_next tp z)) → ∀ (x' : Nat → Rw) (H1 : Heap) (locs1 : List Loc), xR x x' → RD tp (s_num tp lo hi (x 2) (q_next tp z)).2.2 (x' 10) → x' 2 = (s_num tp lo hi (x 2) (q_next tp z)).2.1 → cX t r x' H1 → va_S (cA t) H0 H1 locs1 → W p l e R s m args below meth c H1 locs1 cells slots Q (F0 m (pc + 3) ls (.int ((q_next tp z) 9 7) :: rest))) (kt : ¬ OKs tp (s_num tp lo hi (x 2) (q_next tp z)) → ∀ (x' : Nat → Rw) (H1 : Heap) (locs1 : List Loc), xR x x' → x' 10 2 = m_fault (s_num tp lo hi (x 2) (q_next tp z)) → cX t r x' H1 → va_S (cA t) H0 H1 locs1 → WT p l e R s m args below meth c H1 locs1 cells slots Q (F0 m pc ls rest) (t.2.1 3)) : W p l e R s m args below meth c H locs cells slots Q (F0 m pc ls (.int hi :: .int lo :: .ref (t.2.1 1) :: rest)) := by
  exact kk_P (W.runX (As := [.int lo, .int hi]) (rest := rest) (maxL := 3) S (k2_behind l t r x κ hA lo hi tp z hpi hu0 htz hat hh) rfl rfl hR.1 (by have := hR.2.1; show 8 + (3 + 11) + 38 * 8 ≤ R.locals; omega) (pay_in S.2.2.2.2 (lw_meth q1109)) (fun U hW => LocX.code (pay_in S.2.2.2.2 (lw_meth q1109) _ List.mem_cons_self #[] U hW)) (S.2.2.2.2 _ q106) ⟨by decide, by decide⟩ (show (parseMethodDescriptor yX2_behind.desc).map (fun d => d.parameters.length) = some 2 from by decide +kernel) (S.2.2.2.2 _ q1106) (S.2.2.2.2 _ q1108) (S.2.2.2.2 _ qs46) ⟨sR_blind, c_recvR hK hP, sR_pre hK hP hE⟩ rfl hsz rfl (lv_room hrest) hdg ⟨hR.2.2.1, hR.2.2.2⟩) hS (fun _ h => h) kr kt
end CC

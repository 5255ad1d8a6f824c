theorem RD.isw {tp : Nat} {z : Nat → Rw} {u : Rw} (h : RD tp z u) (h3 : u 3 = 2) : z 9 4 = 1 ∧ ∃ k, k < 13 ∧ keyX (mB z tp) (frN z) (wN z) k ∧ u 4 = nI k := by
  obtain ⟨-, -, -, h | h | h | ⟨h, k, h1, h2, -, h4⟩⟩ := h
  · exact absurd (h.2.symm.trans h3) (by decide)
  · exact absurd (h.2.symm.trans h3) (by decide)
  · exact absurd (h.2.2.1.symm.trans h3) (by decide)
  · exact ⟨h, k, h1, h2, h4⟩
theorem RD.notw {tp : Nat} {z : Nat → Rw} {u : Rw} (h : RD tp z u) (h3 : ¬ u 3 = 2) : ¬ z 9 4 = 1 := by
  obtain ⟨-, -, -, h | h | h | ⟨h, k, h1, h2, h5, h4⟩⟩ := h
  · rw [h.1]; decide
  · rw [h.1]; decide
  · rw [h.1]; decide
  · exact absurd h5 h3
theorem RD.t3 {tp : Nat} {z : Nat → Rw} {u : Rw} (h : RD tp z u) : u 3 = 3 ↔ z 9 4 = 3 := by
  obtain ⟨-, -, -, h | h | h | ⟨h, k, h1, h2, h5, h4⟩⟩ := h
  · first | (rw [h.1, h.2]; done) | (rw [h.1, h.2]; decide)
  · first | (rw [h.1, h.2]; done) | (rw [h.1, h.2]; decide)
  · rw [h.1, h.2.2.1]; decide
  · rw [h, h5]; decide
theorem RD.t0 {tp : Nat} {z : Nat → Rw} {u : Rw} (h : RD tp z u) : u 3 = 0 ↔ z 9 4 = 0 := by
  obtain ⟨-, -, -, h | h | h | ⟨h, k, h1, h2, h5, h4⟩⟩ := h
  · rw [h.1, h.2]
  · first | (rw [h.1, h.2]; done) | (rw [h.1, h.2]; decide)
  · rw [h.1, h.2.2.1]; decide
  · rw [h, h5]; decide
theorem tl_stop {tp : Nat} {s : Ps} (h : ¬ OKs tp s) : ∀ j n, m_tl tp j n s = (n, s)
  | 0, _ => rfl
  | j + 1, n => by rw [m_tl, if_neg (fun q => h ⟨q.1, Or.inr (Or.inl q.2)⟩)]
theorem ok_no {tp : Nat} {s : Ps} (h : ¬ OKs tp s) : ¬ m_ok s := fun q => h ⟨q.1, Or.inl q.2⟩
theorem TI_item {tp : Nat} {r : Rw} {z : Nat → Rw} (h : PI tp z) (hg : (m_item tp r z).1 = true) : TI tp (m_item tp r z).2.2 := by
  obtain ⟨y, h1, -, h4⟩ := adv_item h hg
  rw [h4]
  exact TI.next h1
theorem item_5 {tp : Nat} {r : Rw} {z : Nat → Rw} : (m_item tp r z).2.2 5 = z 5 := (KX_item (KX.rf (x := z))).1 5 (by decide)
def kQ (t : CT) (r : Rw) (x : Nat → Rw) (w : Nat × Ps) : Array Value → State → Outcome → State → Prop := fun _ st oc t' =>
  ((m_ok w.2 ∧ oc = .returned (some (.int (nI w.1))) ∧ ∃ x', xR x x' ∧ x' 2 = w.2.2.1 ∧ cX t r x' t'.heap) ∨ (¬ m_ok w.2 ∧ oc = .threw (t.2.1 3) ∧ ∃ x', xR x x' ∧ x' 10 2 = m_fault w.2 ∧ cX t r x' t'.heap)) ∧ va_F (cA t) st t'
section CC
variable {p : Program} {l : Launch} {e : Env} {R : Room} {s : State} {m : MethodId} {args : Array Value} {below : List Frame} {meth : Method} {c : Code} {H H0 : Heap} {locs : List Loc} {cells slots : Nat} {Q : State → Prop}
variable {cc : ByteArray} {pc nL : Nat} {ls : Array Slot} {rest : List Value} {t : CT} {r : Rw} {a : Array Value} {free A1 : Nat → Prop} {st0 : List Value} {x : Nat → Rw}
theorem kk_Q {o : Nat × Ps} (hr : CallRunX p l e R s m args below meth c H locs cells slots 0 0 (F0 m pc ls st0) rest (kQ t r x o a) free) (hS : va_S (cA t) H0 H locs) (hf : ∀ q, free q → cA t q)
    (kr : m_ok o.2 → ∀ (x' : Nat → Rw) (H1 : Heap) (locs1 : List Loc), xR x x' → x' 2 = o.2.2.1 → cX t r x' H1 → va_S (cA t) H0 H1 locs1 → W p l e R s m args below meth c H1 locs1 cells slots Q (F0 m (pc + 3) ls (.int (nI o.1) :: rest)))
    (kt : ¬ m_ok o.2 → ∀ (x' : Nat → Rw) (H1 : Heap) (locs1 : List Loc), xR x x' → x' 10 2 = m_fault o.2 → cX t r x' H1 → va_S (cA t) H0 H1 locs1 → WT p l e R s m args below meth c H1 locs1 cells slots Q (F0 m pc ls rest) (t.2.1 3)) : W p l e R s m args below meth c H locs cells slots Q (F0 m pc ls st0) := by
  intro T hT X
  obtain ⟨o', st₀, t', T', L, h0, X', hL, e1, ⟨hv, hz, hk⟩, st⟩ := hr T hT X
  rw [h0] at hz hk
  have hS1 : va_S (cA t) H0 T'.heap (locs ++ L) := ⟨Nat.le_trans hS.1 (by rw [e1]; exact hz), fun q h1 h2 => by rw [e1, hk q (Nat.lt_of_lt_of_le h1 hS.1) h2]; exact hS.2.1 q h1 h2, fun q hq => by
      rcases List.mem_append.mp hq with h | h
      · exact hS.2.2 q h
      · exact hf _ (hL q h)⟩
  rcases hv with ⟨h1, h2, x', h3, h5, h6⟩ | ⟨h1, h2, x', h3, h4, h6⟩
  · subst h2
    obtain ⟨t2, a1, b1⟩ := kr h1 x' T'.heap (locs ++ L) h3 h5 (by rw [e1]; exact h6) hS1 T' rfl X'
    exact ⟨t2, st t2 a1, b1⟩
  · subst h2
    obtain ⟨t2, a1, b1⟩ := kt h1 x' T'.heap (locs ++ L) h3 h4 (by rw [e1]; exact h6) hS1 T' rfl X'
    exact ⟨t2, st t2 a1, b1⟩
theorem kq_out {o : Nat × Ps} {x1 : Nat → Rw} (hno : ∀ (z : ExceptionTableEntry), z ∈ c.exceptionTable.toList → False) (hlk : meth.locks = false) (hS : va_S (cA t) s.heap H locs) (ho : ¬ m_ok o.2) (hx : xR x x1) (h2 : x1 10 2 = m_fault o.2) (hP : cX t r x1 H) : WT p l e R s m args below meth c H locs cells slots (MQX below (kQ t r x o) args s cells slots (cA t)) (F0 m pc ls rest) (t.2.1 3) :=
  WT.out rfl rfl rfl (fun q hq => (hno q hq).elim) hlk (fun t' ht _ => ⟨Or.inr ⟨ho, rfl, x1, hx, h2, by rw [ht]; exact hP⟩, hS.F ht⟩) hS.2.2
theorem kq_iret {o : Nat × Ps} {v : Int32} {x1 : Nat → Rw} {own : String} (S : CallFix p m c cc nL s args lw_all own) (hr : meth.sig.returnType = some .int) (hlk : meth.locks = false) (hS : va_S (cA t) s.heap H locs) (ho : m_ok o.2) (hx : xR x x1) (h2 : x1 2 = o.2.2.1) (hP : cX t r x1 H) (hv : v = nI o.1) (hdg : decode cc pc = .ok (.ireturn, 1)) : W p l e R s m args below meth c H locs cells slots (MQX below (kQ t r x o) args s cells slots (cA t)) (F0 m pc ls [.int v]) := by
  subst hv
  exact W.mono (fun _ h => MQ.x h) (W.iret S.1 S.2.1 hr (fun t' ht _ => ⟨Or.inl ⟨ho, rfl, x1, hx, h2, by rw [ht]; exact hP⟩, hS.F ht⟩) hS.2.2 hdg hlk)
end CC
set_option maxHeartbeats 4000000 in
set_option maxRecDepth 100000 in
theorem k2_item (l : Launch) (t : CT) (r : Rw) (x : Nat → Rw) (κ : Nat × Nat × Nat) (hA : ∀ q, cA t q → κ.2.2 ≤ q) (tp : Nat) (z : Nat → Rw) (b : Nat) (hti : TI tp z) (htz : tpe z x) (hd : RD tp z (x 10)) (hV : pV b (x 2)) : MetX l yX2_item (ws_ yX2_item cX2_item 1 none) (rmF 11) (va_Pc [.ref (t.2.1 1)] (fun U => cK t U ∧ cX t r x U.heap ∧ kS κ U U.heap)) (kP t r x tp (m_item tp (x 2) z) none) 0 0 (cA t) := by
  refine kk_startX (by decide) (Nat.le_of_ble_eq_true rfl) ?_
  intro p e s m below meth c S hr hlk hin hB ls hl
  obtain ⟨hK, hP⟩ := hB
  have hx := S.1
  have hb := S.2.1
  have hown : s.vm.findClass RX2 = some m.cls := S.2.2.2.1
  have hts := S.2.2.2.2
  have hS : va_S (cA t) s.heap s.heap [] := va_S.rf
  have hl : lv_has ls 1 [(0, .ref (t.2.1 1))] := hl
  obtain ⟨hP, hE⟩ := hP
  have hu0 := hd.1
  refine lv_aload_n hx hb dX2_item_0 rfl (lv_at hl 0 rfl) ?_
  refine lv_aload_n hx hb dX2_item_1 rfl (lv_at hl 0 rfl) ?_
  refine rg_token S hK hP dX2_item_2 ?_
  refine lv_iconst (v := 2) hx hb dX2_item_5 (by decide) ?_
  refine lv_icmp_ne (tgt := 22) hx hb dX2_item_6 (by decide) (fun c_6 => ?_) (fun c_6 => ?_)
  · skip
    refine lv_iconst (v := 0) hx hb dX2_item_22 (by decide) ?_
    refine rc_need0 S hK hP hS (rm_ok (Nat.le_of_ble_eq_true rfl)) hl.1 (Nat.le_of_ble_eq_true rfl) dX2_item_23 (fun H locs hP hS => ?_)
    rw [item_n (hd.notw c_6)]
    exact kp_out (o := (false, x 2, failx z)) hin hlk hS (fun q => absurd q.1 Bool.false_ne_true) (xR.rf x) hd.2.2.1 hP
  · skip
    obtain ⟨hz4, k_, hk_, hX_, hv4⟩ := hd.isw c_6
    refine lv_aload_n hx hb dX2_item_9 rfl (lv_at hl 0 rfl) ?_
    refine rg_value S hK hP dX2_item_10 ?_
    refine lv_bipush (v := 8) hx hb dX2_item_13 (by decide) ?_
    refine kb_gt_n (tgt := 22) (a := k_) (b := 8) S hv4 rfl (by omega) (by omega) dX2_item_15 (by decide) (fun c_15 => ?_) (fun c_15 => ?_)
    · skip
      refine lv_iconst (v := 0) hx hb dX2_item_22 (by decide) ?_
      refine rc_need0 S hK hP hS (rm_ok (Nat.le_of_ble_eq_true rfl)) hl.1 (Nat.le_of_ble_eq_true rfl) dX2_item_23 (fun H locs hP hS => ?_)
      rw [item_k hti hz4 hk_ hX_, if_neg (by omega), if_neg (by omega), if_neg (by omega)]
      exact kp_out (o := (false, x 2, failx z)) hin hlk hS (fun q => absurd q.1 Bool.false_ne_true) (xR.rf x) hd.2.2.1 hP
    · skip
      refine lv_iconst (v := 1) hx hb dX2_item_18 (by decide) ?_
      refine lv_goto (tgt := 23) hx hb dX2_item_19 (by decide) ?_
      refine rc_need1 S hK hP hS (rm_ok (Nat.le_of_ble_eq_true rfl)) hl.1 (Nat.le_of_ble_eq_true rfl) dX2_item_23 (fun H locs hP hS => ?_)
      refine lv_aload_n hx hb dX2_item_26 rfl (lv_at hl 0 rfl) ?_
      refine rg_value S hK hP dX2_item_27 ?_
      refine kb_val (y := .int (nI k_)) (congrArg Value.int hv4) ?_
      rcases (show k_ = 7 ∨ k_ = 8 ∨ k_ < 7 by omega) with e_30 | e_30 | e_30
      · skip
        refine lv_lookup (off := 26) (tgt := 56) hx hb dX2_item_30 rfl (by rw [e_30]; rfl) (by decide) ?_
        refine lv_aload_n hx hb dX2_item_56 rfl (lv_at hl 0 rfl) ?_
        refine rc_storm S hK hP (hE.keep hA hS) hA hS (rm_ok (Nat.le_of_ble_eq_true rfl)) hl.1 (tp) (z) hti.1 htz hd (Nat.le_of_ble_eq_true rfl) dX2_item_57 (fun ho_57 x_57 H locs hx_57 hd_57 h2_57 hP hS => ?_) (fun ho_57 x_57 H locs hx_57 hf_57 hP hS => ?_)
        · skip
          rw [item_k hti hz4 hk_ hX_, if_neg (by omega), if_pos e_30]
          refine lv_goto (tgt := 78) hx hb dX2_item_60 (by decide) ?_
          exact kp_vret (o := m_cellar tp 10 99 (x 2) z) S hr hlk hS ho_57 hx_57 hd_57 h2_57 hP dX2_item_78
        · skip
          rw [item_k hti hz4 hk_ hX_, if_neg (by omega), if_pos e_30]
          exact kp_out (o := m_cellar tp 10 99 (x 2) z) hin hlk hS ho_57 hx_57 hf_57 hP
      · skip
        refine lv_lookup (off := 33) (tgt := 63) hx hb dX2_item_30 rfl (by rw [e_30]; rfl) (by decide) ?_
        refine lv_aload_n hx hb dX2_item_63 rfl (lv_at hl 0 rfl) ?_
        refine rc_frost S hK hP (hE.keep hA hS) hA hS (rm_ok (Nat.le_of_ble_eq_true rfl)) hl.1 (tp) (z) hti.1 htz hd (Nat.le_of_ble_eq_true rfl) dX2_item_64 (fun ho_64 x_64 H locs hx_64 hd_64 h2_64 hP hS => ?_) (fun ho_64 x_64 H locs hx_64 hf_64 hP hS => ?_)
        · skip
          rw [item_k hti hz4 hk_ hX_, if_neg (by omega), if_neg (by omega), if_pos e_30]
          refine lv_goto (tgt := 78) hx hb dX2_item_67 (by decide) ?_
          exact kp_vret (o := m_cellar tp 4 9 (x 2) z) S hr hlk hS ho_64 hx_64 hd_64 h2_64 hP dX2_item_78
        · skip
          rw [item_k hti hz4 hk_ hX_, if_neg (by omega), if_neg (by omega), if_pos e_30]
          exact kp_out (o := m_cellar tp 4 9 (x 2) z) hin hlk hS ho_64 hx_64 hf_64 hP
      · skip
        refine lv_lookup (off := 40) (tgt := 70) hx hb dX2_item_30 rfl ((lv_osw (k := 7) (fun q => absurd ((nI_eq (b := 7) (by omega) (by decide)).mp q) (by omega)) rfl).trans ((lv_osw (k := 8) (fun q => absurd ((nI_eq (b := 8) (by omega) (by decide)).mp q) (by omega)) rfl).trans rfl)) (by decide) ?_
        refine lv_aload_n hx hb dX2_item_70 rfl (lv_at hl 0 rfl) ?_
        refine lv_aload_n hx hb dX2_item_71 rfl (lv_at hl 0 rfl) ?_
        refine rg_value S hK hP dX2_item_72 ?_
        refine rc_cask S hK hP (hE.keep hA hS) hA hS (rm_ok (Nat.le_of_ble_eq_true rfl)) hl.1 (k_) (tp) (z) (b) hti.1 htz hd hV e_30 hv4 (Nat.le_of_ble_eq_true rfl) dX2_item_75 (fun ho_75 x_75 H locs hx_75 hd_75 h2_75 hP hS => ?_) (fun ho_75 x_75 H locs hx_75 hf_75 hP hS => ?_)
        · skip
          rw [item_k hti hz4 hk_ hX_, if_pos e_30]
          exact kp_vret (o := m_cask tp (nI k_) (x 2) z) S hr hlk hS ho_75 hx_75 hd_75 h2_75 hP dX2_item_78
        · skip
          rw [item_k hti hz4 hk_ hX_, if_pos e_30]
          exact kp_out (o := m_cask tp (nI k_) (x 2) z) hin hlk hS ho_75 hx_75 hf_75 hP
section CC
variable {p : Program} {l : Launch} {e : Env} {R : Room} {s : State} {m : MethodId} {args : Array Value} {below : List Frame} {meth : Method} {c : Code} {H H0 : Heap} {locs : List Loc} {cells slots : Nat} {Q : State → Prop}
variable {cc : ByteArray} {pc nL : Nat} {ls : Array Slot} {rest : List Value} {t : CT} {r : Rw} {x : Nat → Rw}
theorem rc_item {κ : Nat × Nat × Nat} (S : CallFix p m c cc nL s args lw_all RX2) (hK : cK t s) (hP : cX t r x H) (hE : kS κ s H) (hA : ∀ q, cA t q → κ.2.2 ≤ q) (hS : va_S (cA t) H0 H locs) (hR : kRm R 12 cells slots) (hsz : ls.size = nL) (tp : Nat) (z : Nat → Rw) (b : Nat) (hti : TI tp z) (htz : tpe z x) (hd : RD tp z (x 10)) (hV : pV b (x 2)) (hrest : (rest.map fun v => v.category).sum ≤ 8) (hdg : decode cc pc = .ok (.invokevirtual 125, 3)) (kr : OKs tp (m_item tp (x 2) z) → ∀ (x' : Nat → Rw) (H1 : Heap) (locs1 : List Loc), xR x x' → RD tp (m_item tp (x 2) z).2.2 (x' 10) → x' 2 = (m_item tp (x 2) z).2.1 → cX t r x' H1 → va_S (cA t) H0 H1 locs1 → W p l e R s m args below meth c H1 locs1 cells slots Q (F0 m (pc + 3) ls (rest))) (kt : ¬ OKs tp (m_item tp (x 2) z) → ∀ (x' : Nat → Rw) (H1 : Heap) (locs1 : List Loc), xR x x' → x' 10 2 = m_fault (m_item tp (x 2) z) → cX t r x' H1 → va_S (cA t) H0 H1 locs1 → WT p l e R s m args below meth c H1 locs1 cells slots Q (F0 m pc ls rest) (t.2.1 3)) : W p l e R s m args below meth c H locs cells slots Q (F0 m pc ls (.ref (t.2.1 1) :: rest)) := by
  exact kk_P (W.runX (As := []) (rest := rest) (maxL := 1) S (k2_item l t r x κ hA tp z b hti htz hd hV) rfl rfl hR.1 (by have := hR.2.1; show 8 + (1 + 11) + 38 * 11 ≤ R.locals; omega) (pay_in S.2.2.2.2 (lw_meth q1101)) (fun U hW => LocX.code (pay_in S.2.2.2.2 (lw_meth q1101) _ List.mem_cons_self #[] U hW)) (S.2.2.2.2 _ q106) ⟨by decide, by decide⟩ (show (parseMethodDescriptor yX2_item.desc).map (fun d => d.parameters.length) = some 0 from by decide +kernel) (S.2.2.2.2 _ q1098) (S.2.2.2.2 _ q1100) (S.2.2.2.2 _ qs44) ⟨sR_blind, c_recvR hK hP, sR_pre hK hP hE⟩ rfl hsz rfl (lv_room hrest) hdg ⟨hR.2.2.1, hR.2.2.2⟩) hS (fun _ h => h) kr kt
end CC
set_option maxHeartbeats 4000000 in
set_option maxRecDepth 100000 in
theorem k2_whole (l : Launch) (t : CT) (r : Rw) (x : Nat → Rw) (κ : Nat × Nat × Nat) (hA : ∀ q, cA t q → κ.2.2 ≤ q) (tp : Nat) (z : Nat → Rw) (b : Nat) (hpi : PI tp z) (hz0 : z 9 6 = 0) (hu0 : x 10 0 = nI tp) (htz : tpe z x) (hV : pV b (x 2)) : MetX l yX2_whole (ws_ yX2_whole cX2_whole 2 (some .int)) (rmF 12) (va_Pc [.ref (t.2.1 1)] (fun U => cK t U ∧ cX t r x U.heap ∧ kS κ U U.heap)) (kQ t r x (m_tl tp 121 1 (m_item tp (x 2) (q_next tp z)))) 0 0 (cA t) := by
  refine kk_startX (by decide) (Nat.le_of_ble_eq_true rfl) ?_
  intro p e s m below meth c S hr hlk hin hB ls hl
  obtain ⟨hK, hP⟩ := hB
  have hx := S.1
  have hb := S.2.1
  have hown : s.vm.findClass RX2 = some m.cls := S.2.2.2.1
  have hts := S.2.2.2.2
  have hS : va_S (cA t) s.heap s.heap [] := va_S.rf
  have hl : lv_has ls 2 [(0, .ref (t.2.1 1))] := hl
  obtain ⟨hP, hE⟩ := hP
  have h120 := hpi.2.1
  refine lv_aload_n hx hb dX2_whole_0 rfl (lv_at hl 0 rfl) ?_
  refine lv_iconst (v := 0) hx hb dX2_whole_1 (by decide) ?_
  refine rp_at S hK hP hS (fun _ h => h) dX2_whole_2 (fun H locs hP hS => ?_)
  refine lv_aload_n hx hb dX2_whole_5 rfl (lv_at hl 0 rfl) ?_
  refine rc_next S hK hP (hE.keep hA hS) hA hS (rm_ok (Nat.le_of_ble_eq_true rfl)) hl.1 (tp) (z) hpi hu0 htz hz0.symm (Nat.le_of_ble_eq_true rfl) dX2_whole_6 (fun ho_6 x_6 H locs hx_6 hd_6 h2_6 hP hS => ?_) (fun ho_6 x_6 H locs hx_6 hf_6 hP hS => ?_)
  · skip
    have hxb : xR x x_6 := (show xR x (va_up x 10 _) from fun _ _ h => va_un h).tr hx_6
    refine lv_aload_n hx hb dX2_whole_9 rfl (lv_at hl 0 rfl) ?_
    refine rc_item S hK hP (hE.keep hA hS) hA hS (rm_ok (Nat.le_of_ble_eq_true rfl)) hl.1 (tp) ((q_next tp z)) (b) (TI.next hpi) ((htz.r hxb).z rfl) hd_6 (by rw [show x_6 2 = x 2 from h2_6]; exact hV) (Nat.le_of_ble_eq_true rfl) dX2_whole_10 (fun ho_10 x_10 H locs hx_10 hd_10 h2_10 hP hS => ?_) (fun ho_10 x_10 H locs hx_10 hf_10 hP hS => ?_)
    · skip
      rw [show x_6 2 = x 2 from h2_6] at ho_10 hd_10 h2_10
      have hxa := hxb.tr hx_10
      refine lv_iconst (v := 1) hx hb dX2_whole_13 (by decide) ?_
      refine lv_istore_n (lv' := [(1, .int (1)), (0, .ref (t.2.1 1))]) hx hb dX2_whole_14 rfl hl (by decide) rfl (fun ls hl => ?_)
      have lp_15 : ∀ (j : Nat) (n : Nat) (r1 : Rw) (z1 : Nat → Rw) (x1 : Nat → Rw) (H : Heap) (locs : List Loc) (ls : Array Slot), (z1 9 4 = 3 → tp < toN z1 + j) → (m_tl tp j n (true, r1, z1) = (m_tl tp 121 1 (m_item tp (x 2) (q_next tp z)))) → (TI tp z1) → (pV b r1) → (z1 5 = z 5) → (xR x x1) → (RD tp z1 (x1 10)) → (x1 2 = r1) → cX t (r) (x1) H → va_S (cA t) s.heap H locs → lv_has ls 2 [(0, .ref (t.2.1 1)), (1, .int ((nI n)))] → W p l e (rmF 12) s m ([.ref (t.2.1 1)] : List Value).toArray below meth c H locs 0 0 (MQX below (kQ t r x (m_tl tp 121 1 (m_item tp (x 2) (q_next tp z)))) ([.ref (t.2.1 1)] : List Value).toArray s 0 0 (cA t)) (F0 m 15 ls []) := by
        intro j
        induction j with
        | zero =>
          intro n r1 z1 x1 H locs ls hkj he hti1 hV1 h51 hx1 hd1 h21 hP hS hl
          refine lv_aload_n hx hb dX2_whole_15 rfl (lv_at hl 0 rfl) ?_
          refine rg_token S hK hP dX2_whole_16 ?_
          refine lv_iconst (v := 3) hx hb dX2_whole_19 (by decide) ?_
          refine lv_icmp_ne (tgt := 37) hx hb dX2_whole_20 (by decide) (fun c_20 => ?_) (fun c_20 => ?_)
          · skip
            have hres : (m_tl tp 121 1 (m_item tp (x 2) (q_next tp z))) = (n, (true, r1, z1)) := he.symm
            rw [hres]
            refine lv_aload_n hx hb dX2_whole_37 rfl (lv_at hl 0 rfl) ?_
            refine lv_aload_n hx hb dX2_whole_38 rfl (lv_at hl 0 rfl) ?_
            refine rg_token S hK hP dX2_whole_39 ?_
            refine lv_if_ne (tgt := 49) hx hb dX2_whole_42 (by decide) (fun c_42 => ?_) (fun c_42 => ?_)
            · skip
              refine lv_iconst (v := 0) hx hb dX2_whole_49 (by decide) ?_
              refine rc_need0 S hK hP hS (rm_ok (Nat.le_of_ble_eq_true rfl)) hl.1 (Nat.le_of_ble_eq_true rfl) dX2_whole_50 (fun H locs hP hS => ?_)
              exact kq_out (o := (n, (true, r1, z1))) hin hlk hS (fun q => c_42 (hd1.t0.mpr q.2)) hx1 hd1.2.2.1 hP
            · skip
              refine lv_iconst (v := 1) hx hb dX2_whole_45 (by decide) ?_
              refine lv_goto (tgt := 50) hx hb dX2_whole_46 (by decide) ?_
              refine rc_need1 S hK hP hS (rm_ok (Nat.le_of_ble_eq_true rfl)) hl.1 (Nat.le_of_ble_eq_true rfl) dX2_whole_50 (fun H locs hP hS => ?_)
              refine lv_iload_n hx hb dX2_whole_53 rfl (lv_at hl 1 rfl) ?_
              exact kq_iret (o := (n, (true, r1, z1))) S hr hlk hS ⟨rfl, hd1.t0.mp c_42⟩ hx1 h21 hP rfl dX2_whole_54
          · exact absurd (hkj (hd1.t3.mp c_20)) (by have := hti1.1.to.2; omega)
        | succ j ih =>
          intro n r1 z1 x1 H locs ls hkj he hti1 hV1 h51 hx1 hd1 h21 hP hS hl
          have ih_15 := ih
          refine lv_aload_n hx hb dX2_whole_15 rfl (lv_at hl 0 rfl) ?_
          refine rg_token S hK hP dX2_whole_16 ?_
          refine lv_iconst (v := 3) hx hb dX2_whole_19 (by decide) ?_
          refine lv_icmp_ne (tgt := 37) hx hb dX2_whole_20 (by decide) (fun c_20 => ?_) (fun c_20 => ?_)
          · skip
            have hres : (m_tl tp 121 1 (m_item tp (x 2) (q_next tp z))) = (n, (true, r1, z1)) := by (have h := he; rw [m_tl, if_neg (fun q => c_20 (hd1.t3.mpr q.2))] at h; exact h.symm)
            rw [hres]
            refine lv_aload_n hx hb dX2_whole_37 rfl (lv_at hl 0 rfl) ?_
            refine lv_aload_n hx hb dX2_whole_38 rfl (lv_at hl 0 rfl) ?_
            refine rg_token S hK hP dX2_whole_39 ?_
            refine lv_if_ne (tgt := 49) hx hb dX2_whole_42 (by decide) (fun c_42 => ?_) (fun c_42 => ?_)
            · skip
              refine lv_iconst (v := 0) hx hb dX2_whole_49 (by decide) ?_
              refine rc_need0 S hK hP hS (rm_ok (Nat.le_of_ble_eq_true rfl)) hl.1 (Nat.le_of_ble_eq_true rfl) dX2_whole_50 (fun H locs hP hS => ?_)
              exact kq_out (o := (n, (true, r1, z1))) hin hlk hS (fun q => c_42 (hd1.t0.mpr q.2)) hx1 hd1.2.2.1 hP
            · skip
              refine lv_iconst (v := 1) hx hb dX2_whole_45 (by decide) ?_
              refine lv_goto (tgt := 50) hx hb dX2_whole_46 (by decide) ?_
              refine rc_need1 S hK hP hS (rm_ok (Nat.le_of_ble_eq_true rfl)) hl.1 (Nat.le_of_ble_eq_true rfl) dX2_whole_50 (fun H locs hP hS => ?_)
              refine lv_iload_n hx hb dX2_whole_53 rfl (lv_at hl 1 rfl) ?_
              exact kq_iret (o := (n, (true, r1, z1))) S hr hlk hS ⟨rfl, hd1.t0.mp c_42⟩ hx1 h21 hP rfl dX2_whole_54
          · skip
            refine lv_aload_n hx hb dX2_whole_23 rfl (lv_at hl 0 rfl) ?_
            refine rc_next S hK hP (hE.keep hA hS) hA hS (rm_ok (Nat.le_of_ble_eq_true rfl)) hl.1 (tp) (z1) hti1.1 hd1.1 ((htz.r hx1).z h51) hd1.2.1 (Nat.le_of_ble_eq_true rfl) dX2_whole_24 (fun ho_24 x_24 H locs hx_24 hd_24 h2_24 hP hS => ?_) (fun ho_24 x_24 H locs hx_24 hf_24 hP hS => ?_)
            · skip
              rw [show x1 2 = r1 from h21] at ho_24 h2_24
              refine lv_aload_n hx hb dX2_whole_27 rfl (lv_at hl 0 rfl) ?_
              refine rc_item S hK hP (hE.keep hA hS) hA hS (rm_ok (Nat.le_of_ble_eq_true rfl)) hl.1 (tp) ((q_next tp z1)) (b) (TI.next hti1.1) ((htz.r (hx1.tr hx_24)).z h51) hd_24 (by rw [show x_24 2 = r1 from h2_24]; exact hV1) (Nat.le_of_ble_eq_true rfl) dX2_whole_28 (fun ho_28 x_28 H locs hx_28 hd_28 h2_28 hP hS => ?_) (fun ho_28 x_28 H locs hx_28 hf_28 hP hS => ?_)
              · skip
                rw [show x_24 2 = r1 from h2_24] at ho_28 hd_28 h2_28
                refine lv_iinc (v := (nI (n + 1))) (lv' := [(1, .int ((nI (n + 1)))), (0, .ref (t.2.1 1))]) hx hb dX2_whole_31 hl (k := 1) rfl (nn_1 rfl) (by decide) rfl (fun ls hl => ?_)
                refine lv_goto (tgt := 15) hx hb dX2_whole_34 (by decide) ?_
                exact ih_15  ((n + 1)) (m_item tp r1 (q_next tp z1)).2.1 (m_item tp r1 (q_next tp z1)).2.2 _ _ _ ls (fun q3 => by have h4 := item_3 (r := r1) hti1.1 ho_28.1 q3; have := hkj (hd1.t3.mp c_20); omega) (by have h := he; rw [m_tl, if_pos ⟨rfl, hd1.t3.mp c_20⟩] at h; rw [show ((true, (m_item tp r1 (q_next tp z1)).2.1, (m_item tp r1 (q_next tp z1)).2.2) : Ps) = (m_item tp r1 (q_next tp z1)) by rw [← ho_28.1]]; exact h) (TI_item hti1.1.next ho_28.1) (pV_item hV1) (item_5.trans h51) ((hx1.tr hx_24).tr hx_28) (hd_28) (h2_28) hP hS (lv_sub hl [1, 0] rfl)
              · skip
                rw [show x_24 2 = r1 from h2_24] at ho_28 hf_28
                rw [← he, m_tl, if_pos ⟨rfl, hd1.t3.mp c_20⟩]
                show WT p l e _ s m _ below meth c H locs 0 0 (MQX below (kQ t r x (m_tl tp j (n + 1) (m_item tp r1 (q_next tp z1)))) _ s 0 0 (cA t)) _ _
                rw [tl_stop ho_28]
                exact kq_out (o := (n + 1, m_item tp r1 (q_next tp z1))) hin hlk hS (ok_no ho_28) ((hx1.tr hx_24).tr hx_28) hf_28 hP
            · skip
              rw [show x1 2 = r1 from h21] at ho_24 hf_24
              have hng : ¬ good tp (q_next tp z1) := fun g => ho_24 ⟨rfl, g⟩
              have e1 : m_item tp r1 (q_next tp z1) = (false, r1, failx (q_next tp z1)) := bad_item hng (TI.next hti1.1)
              have hno : ¬ OKs tp ((false, r1, failx (q_next tp z1)) : Ps) := fun q => absurd q.1 Bool.false_ne_true
              rw [← he, m_tl, if_pos ⟨rfl, hd1.t3.mp c_20⟩]
              show WT p l e _ s m _ below meth c H locs 0 0 (MQX below (kQ t r x (m_tl tp j (n + 1) (m_item tp r1 (q_next tp z1)))) _ s 0 0 (cA t)) _ _
              rw [e1, tl_stop hno]
              exact kq_out (o := (n + 1, (false, r1, failx (q_next tp z1)))) hin hlk hS (ok_no hno) (hx1.tr hx_24) (hf_24.trans (fault_t.trans fault_f.symm)) hP
      exact lp_15 121 (1) (m_item tp (x 2) (q_next tp z)).2.1 (m_item tp (x 2) (q_next tp z)).2.2 _ _ _ ls (fun _ => by have := hpi.2.1; omega) (by rw [show ((true, (m_item tp (x 2) (q_next tp z)).2.1, (m_item tp (x 2) (q_next tp z)).2.2) : Ps) = m_item tp (x 2) (q_next tp z) by rw [← ho_10.1]]) (TI_item hpi.next ho_10.1) (pV_item hV) (item_5) (hxa) (hd_10) (h2_10) hP hS (lv_sub hl [1, 0] rfl)
    · skip
      rw [show x_6 2 = x 2 from h2_6] at ho_10 hf_10
      rw [tl_stop ho_10]
      exact kq_out (o := (1, m_item tp (x 2) (q_next tp z))) hin hlk hS (ok_no ho_10) (hxb.tr hx_10) hf_10 hP
  · skip
    have hng : ¬ good tp (q_next tp z) := fun g => ho_6 ⟨rfl, g⟩
    have e1 : m_item tp (x 2) (q_next tp z) = (false, x 2, failx (q_next tp z)) := bad_item hng (TI.next hpi)
    have hno : ¬ OKs tp ((false, x 2, failx (q_next tp z)) : Ps) := fun q => absurd q.1 Bool.false_ne_true
    rw [e1, tl_stop hno]
    exact kq_out (o := (1, (false, x 2, failx (q_next tp z)))) hin hlk hS (ok_no hno) ((show xR x (va_up x 10 _) from fun _ _ h => va_un h).tr hx_6) (hf_6.trans (fault_t.trans fault_f.symm)) hP
section CC
variable {p : Program} {l : Launch} {e : Env} {R : Room} {s : State} {m : MethodId} {args : Array Value} {below : List Frame} {meth : Method} {c : Code} {H H0 : Heap} {locs : List Loc} {cells slots : Nat} {Q : State → Prop}
variable {cc : ByteArray} {pc nL : Nat} {ls : Array Slot} {rest : List Value} {t : CT} {r : Rw} {x : Nat → Rw}
theorem rc_whole {κ : Nat × Nat × Nat} (S : CallFix p m c cc nL s args lw_all RX0) (hK : cK t s) (hP : cX t r x H) (hE : kS κ s H) (hA : ∀ q, cA t q → κ.2.2 ≤ q) (hS : va_S (cA t) H0 H locs) (hR : kRm R 13 cells slots) (hsz : ls.size = nL) (tp : Nat) (z : Nat → Rw) (b : Nat) (hpi : PI tp z) (hz0 : z 9 6 = 0) (hu0 : x 10 0 = nI tp) (htz : tpe z x) (hV : pV b (x 2)) (hrest : (rest.map fun v => v.category).sum ≤ 8) (hdg : decode cc pc = .ok (.invokevirtual 347, 3)) (kr : m_ok (m_tl tp 121 1 (m_item tp (x 2) (q_next tp z))).2 → ∀ (x' : Nat → Rw) (H1 : Heap) (locs1 : List Loc), xR x x' → x' 2 = (m_tl tp 121 1 (m_item tp (x 2) (q_next tp z))).2.2.1 → cX t r x' H1 → va_S (cA t) H0 H1 locs1 → W p l e R s m args below meth c H1 locs1 cells slots Q (F0 m (pc + 3) ls (.int (nI (m_tl tp 121 1 (m_item tp (x 2) (q_next tp z))).1) :: rest))) (kt : ¬ m_ok (m_tl tp 121 1 (m_item tp (x 2) (q_next tp z))).2 → ∀ (x' : Nat → Rw) (H1 : Heap) (locs1 : List Loc), xR x x' → x' 10 2 = m_fault (m_tl tp 121 1 (m_item tp (x 2) (q_next tp z))).2 → cX t r x' H1 → va_S (cA t) H0 H1 locs1 → WT p l e R s m args below meth c H1 locs1 cells slots Q (F0 m pc ls rest) (t.2.1 3)) : W p l e R s m args below meth c H locs cells slots Q (F0 m pc ls (.ref (t.2.1 1) :: rest)) := by
  exact kk_Q (W.runX (As := []) (rest := rest) (maxL := 2) S (k2_whole l t r x κ hA tp z b hpi hz0 hu0 htz hV) rfl rfl hR.1 (by have := hR.2.1; show 8 + (2 + 11) + 38 * 12 ≤ R.locals; omega) (pay_in S.2.2.2.2 (lw_meth q1025)) (fun U hW => LocX.code (pay_in S.2.2.2.2 (lw_meth q1025) _ List.mem_cons_self #[] U hW)) (S.2.2.2.2 _ q106) ⟨by decide, by decide⟩ (show (parseMethodDescriptor yX2_whole.desc).map (fun d => d.parameters.length) = some 0 from by decide +kernel) (S.2.2.2.2 _ q1022) (S.2.2.2.2 _ q1023) (S.2.2.2.2 _ q1024) ⟨sR_blind, c_recvR hK hP, sR_pre hK hP hE⟩ rfl hsz rfl (lv_room hrest) hdg ⟨hR.2.2.1, hR.2.2.2⟩) hS (fun _ h => h) kr kt
end CC

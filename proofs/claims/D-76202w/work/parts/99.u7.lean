/-! COMPONENT: text -/
def zT (r : Rw) (z : Nat → Rw) : Nat → Rw := va_up (m_x0 r z) 9 (upd (m_x0 r z 9) 5 0)
theorem t9_f {f : Rw} {a b c d e v : Int32} : t9 (upd f 5 v) a b c d e = t9 f a b c d e := by
  funext p
  unfold t9 upd
  by_cases h : p = 5
  · subst h; simp
  · simp [h]
theorem zT_next (tp : Nat) (r : Rw) (z : Nat → Rw) : q_next tp (zT r z) = QX (m_x0 r z) tp 0 := by
  have e0 : toN (zT r z) = 0 := by
    show ((0 : Int32)).toNatClampNeg = 0
    decide
  have e5 : mB (zT r z) tp = mB (m_x0 r z) tp := rfl
  have e8 : zT r z 9 8 = m_x0 r z 9 8 := rfl
  unfold q_next QX
  rw [e0, e5, e8]
  unfold XT
  rw [show zT r z 9 = upd (m_x0 r z 9) 5 0 from va_us, t9_f]
  exact bx_uu _ _ _ _
theorem cJ.xr {x y z : Nat → Rw} (h : cJ x y) (k : xR y z) : cJ x z := ⟨(k 1 (by decide) (by decide)).trans h.1, (k 4 (by decide) (by decide)).trans h.2.1, (k 5 (by decide) (by decide)).trans h.2.2.1, by rw [k 9 (by decide) (by decide)]; exact h.2.2.2.1, by rw [k 9 (by decide) (by decide)]; exact h.2.2.2.2⟩
section CC
variable {p : Program} {l : Launch} {e : Env} {R : Room} {s : State} {m : MethodId} {args : Array Value} {below : List Frame} {meth : Method} {c : Code} {H H0 : Heap} {locs : List Loc} {cells slots : Nat} {Q : State → Prop}
variable {cc : ByteArray} {pc nL : Nat} {ls : Array Slot} {rest : List Value} {t : CT} {r : Rw} {x : Nat → Rw}
theorem cx_catchW (S : CallFix p m c cc nL s args lw_all RX0) (hK : cK t s) (hP : cX t r x H) {a0 b0 h0 : Nat} (hex : c.exceptionTable.toList.map (fun h => (h.startPc, h.endPc, h.handlerPc, h.catchType)) = [(a0, b0, h0, 350)]) (ha : a0 ≤ pc) (hb : pc < b0)
    (kk : W p l e R s m args below meth c H locs cells slots Q (F0 m h0 ls [.ref (t.2.1 3)])) : WT p l e R s m args below meth c H locs cells slots Q (F0 m pc ls rest) (t.2.1 3) := by
  obtain ⟨ent, ht, he⟩ : ∃ ent, c.exceptionTable.toList = [ent] ∧ (ent.startPc, ent.endPc, ent.handlerPc, ent.catchType) = (a0, b0, h0, 350) := by
    cases h : c.exceptionTable.toList with
    | nil => rw [h] at hex; cases hex
    | cons z zs =>
      rw [h, List.map_cons] at hex
      injection hex with h1 h2
      have : zs = [] := List.map_eq_nil_iff.mp h2
      subst this
      exact ⟨z, rfl, h1⟩
  have h1 : ent.startPc = a0 := congrArg (fun q => q.1) he
  have h2 : ent.endPc = b0 := congrArg (fun q => q.2.1) he
  have h3 : ent.handlerPc = h0 := congrArg (fun q => q.2.2.1) he
  have h4 : ent.catchType = 350 := congrArg (fun q => q.2.2.2) he
  obtain ⟨cell, hc1, hc2, hc3⟩ : ∃ cell : Cell, H[t.2.1 3]? = some cell ∧ cell.vm.isStatics = false ∧ s.vm.findClass "ThunderCasks$Wrong" = some cell.cls := va_recv hK.1 (co_P1 (hP 0 3 (by decide) (by decide))) (ci := 4) (q0 := 0) (q := (RX3, TX3, 6)) rfl rfl
  refine WT.catchC (own := RX0) (nm := "ThunderCasks$Wrong") rfl S.2.2.2.1 ht ?_ (by rw [h4]; decide) (by rw [h4]; exact S.2.2.2.2 _ q1021) hc3 hc1 hc2 (va_asg _ _) ?_
  · show covers ent pc = true
    unfold covers
    rw [h1, h2]
    simp [ha, hb]
  · rw [h3]; exact kk
end CC
set_option maxHeartbeats 4000000 in
set_option maxRecDepth 100000 in
theorem k0_text (l : Launch) (t : CT) (r : Rw) (x : Nat → Rw) (κ : Nat × Nat × Nat) (hA : ∀ q, cA t q → κ.2.2 ≤ q) (tp : Nat) (z : Nat → Rw) (b : Nat) (hV : pV b r) (htp : x 9 1 = nI tp) (h120 : tp ≤ 120) (htz : tpe z x) (hz91 : z 9 1 = nI tp) : Met l yX0_text (wsW_ yX0_text cX0_text 2 (some .int) [(30, 53, 54, 350)]) (rmF 13) (va_Pc [.ref (t.2.1 0)] (fun U => cK t U ∧ cX t r x U.heap ∧ kS κ U U.heap)) (kW (some (.int ((o_mtext tp r z).1))) (fun H => ∃ x1, cJ (va_up x 9 (upd (x 9) 1 0)) x1 ∧ cX t ((o_mtext tp r z).2) x1 H) (cA t)) 0 0 (cA t) := by
  refine kk_startW (by decide) (Nat.le_of_ble_eq_true rfl) ?_
  intro p e s m below meth c S hr hlk hts_ hB ls hl
  obtain ⟨hK, hP⟩ := hB
  have hx := S.1
  have hb := S.2.1
  have hown : s.vm.findClass RX0 = some m.cls := S.2.2.2.1
  have hts := S.2.2.2.2
  have hS : va_S (cA t) s.heap s.heap [] := va_S.rf
  have hl : lv_has ls 2 [(0, .ref (t.2.1 0))] := hl
  obtain ⟨hP, hE⟩ := hP
  refine lv_aload_n hx hb dX0_text_0 rfl (lv_at hl 0 rfl) ?_
  refine cg_reader S hK hP dX0_text_1 ?_
  refine lv_aload_n hx hb dX0_text_4 rfl (lv_at hl 0 rfl) ?_
  refine cg_taped S hK hP dX0_text_5 ?_
  refine cpn_length S hK hP hS (fun _ h => h) dX0_text_8 (fun H locs hP hS => ?_)
  refine lv_aload_n hx hb dX0_text_11 rfl (lv_at hl 0 rfl) ?_
  refine lv_iconst (v := 0) hx hb dX0_text_12 (by decide) ?_
  refine cp_taped S hK hP hS (fun _ h => h) dX0_text_13 (fun H locs hP hS => ?_)
  refine lv_aload_n hx hb dX0_text_16 rfl (lv_at hl 0 rfl) ?_
  refine cg_reader S hK hP dX0_text_17 ?_
  refine cgn_told S hK hP dX0_text_20 ?_
  refine lv_aload_n hx hb dX0_text_23 rfl (lv_at hl 0 rfl) ?_
  refine cg_d S hK hP dX0_text_24 ?_
  refine cb_told_d S hK hP hS (fun _ h => h) (rm_ok (Nat.le_of_ble_eq_true rfl)) hl.1 (Nat.le_of_ble_eq_true rfl) dX0_text_27 (fun H locs hP hS => ?_)
  refine lv_aload_n hx hb dX0_text_30 rfl (lv_at hl 0 rfl) ?_
  refine cg_reader S hK hP dX0_text_31 ?_
  have hu0 : ((va_up (va_up (va_up x 10 (upd (x 10) 0 (x 9 1))) 9 (upd ((va_up x 10 (upd (x 10) 0 (x 9 1))) 9) 1 0)) 2 r)) 10 0 = nI tp := htp
  have htz1 : tpe (zT r z) (va_up (va_up (va_up x 10 (upd (x 10) 0 (x 9 1))) 9 (upd ((va_up x 10 (upd (x 10) 0 (x 9 1))) 9) 1 0)) 2 r) := fun k hk => htz k hk
  have hPI : PI tp (zT r z) := ⟨hz91, h120, ⟨0, Nat.zero_le _, rfl⟩, ⟨0, Nat.zero_le _, rfl⟩⟩
  have hrun : m_tl tp 121 1 (m_item tp (((va_up (va_up (va_up x 10 (upd (x 10) 0 (x 9 1))) 9 (upd ((va_up x 10 (upd (x 10) 0 (x 9 1))) 9) 1 0)) 2 r)) 2) (q_next tp (zT r z))) = m_run tp r z := by rw [zT_next]; rfl
  refine rc_whole S hK hP (hE.keep hA hS) hA hS (rm_ok (Nat.le_of_ble_eq_true rfl)) hl.1 tp (zT r z) b hPI rfl hu0 htz1 hV (Nat.le_of_ble_eq_true rfl) dX0_text_34 (fun ho_34 x_34 H locs hx_34 h2_34 hP hS => ?_) (fun ho_34 x_34 H locs hx_34 hf_34 hP hS => ?_)
  · skip
    rw [hrun] at ho_34 h2_34
    rw [hrun]
    refine lv_istore_n (lv' := [(1, .int ((nI (m_run tp r z).1))), (0, .ref (t.2.1 0))]) hx hb dX0_text_37 rfl hl (by decide) rfl (fun ls hl => ?_)
    refine lv_aload_n hx hb dX0_text_38 rfl (lv_at hl 1 rfl) ?_
    refine cg_d S hK hP dX0_text_39 ?_
    refine lv_aload_n hx hb dX0_text_42 rfl (lv_at hl 1 rfl) ?_
    refine cg_reader S hK hP dX0_text_43 ?_
    refine cgn_told S hK hP dX0_text_46 ?_
    refine cb_d_told S hK hP hS (fun _ h => h) (rm_ok (Nat.le_of_ble_eq_true rfl)) hl.1 (Nat.le_of_ble_eq_true rfl) dX0_text_49 (fun H locs hP hS => ?_)
    rw [h2_34] at hP
    refine lv_iload_n hx hb dX0_text_52 rfl (lv_at hl 0 rfl) ?_
    exact kk_iretW S hr hlk hS (by unfold o_mtext; rw [if_pos ho_34]; exact ⟨_, (((((cJ.rf _)).j10).p9t).j2).xr hx_34, hP⟩) (by unfold o_mtext; rw [if_pos ho_34]) dX0_text_53
  · skip
    rw [hrun] at ho_34 hf_34
    refine cx_catchW S hK hP hts_ (by decide) (by decide) ?_
    refine lv_astore_n (lv' := [(1, .ref (t.2.1 3)), (0, .ref (t.2.1 0))]) hx hb dX0_text_54 rfl hl (by decide) rfl (fun ls hl => ?_)
    refine lv_iconst (v := (-1)) hx hb dX0_text_55 (by decide) ?_
    refine lv_aload_n hx hb dX0_text_56 rfl (lv_at hl 1 rfl) ?_
    refine cg_reader S hK hP dX0_text_57 ?_
    refine cgn_begin S hK hP dX0_text_60 ?_
    refine lv_isub hx hb dX0_text_63 ?_
    exact kk_iretW S hr hlk hS (by unfold o_mtext; rw [if_neg ho_34]; exact ⟨_, (((((cJ.rf _)).j10).p9t).j2).xr hx_34, hP⟩) (by unfold o_mtext; rw [if_neg ho_34, ← hf_34]) dX0_text_64

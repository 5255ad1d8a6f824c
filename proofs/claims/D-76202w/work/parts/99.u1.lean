/-! READER: its fields, outcomes of parses -/
def u9 (f : Rw) (a b c d : Int32) : Rw := fun p => if p = 1 then a else if p = 2 then b else if p = 3 then c else if p = 4 then d else f p
def RT (x : Nat → Rw) (a b c d : Int32) : Nat → Rw := va_up x 10 (u9 (x 10) a b c d)
theorem u9_1 {f : Rw} {a b c d v : Int32} : upd (u9 f a b c d) 1 v = u9 f v b c d := by funext p; simp only [upd, u9]; by_cases h : p = 1 <;> simp [h]
theorem u9_2 {f : Rw} {a b c d v : Int32} : upd (u9 f a b c d) 2 v = u9 f a v c d := by funext p; simp only [upd, u9]; by_cases h : p = 2 <;> simp [h]
theorem u9_3 {f : Rw} {a b c d v : Int32} : upd (u9 f a b c d) 3 v = u9 f a b v d := by funext p; simp only [upd, u9]; by_cases h : p = 3 <;> simp [h]
theorem u9_4 {f : Rw} {a b c d v : Int32} : upd (u9 f a b c d) 4 v = u9 f a b c v := by funext p; simp only [upd, u9]; by_cases h : p = 4 <;> simp [h]
theorem RT_u {x : Nat → Rw} {a b c d : Int32} {g : Rw} : va_up (RT x a b c d) 10 g = va_up x 10 g := bx_uu _ _ _ _
theorem RT_1 {x : Nat → Rw} {a b c d v : Int32} : va_up (RT x a b c d) 10 (upd (RT x a b c d 10) 1 v) = RT x v b c d := by rw [RT_u]; unfold RT; rw [va_us, u9_1]
theorem RT_2 {x : Nat → Rw} {a b c d v : Int32} : va_up (RT x a b c d) 10 (upd (RT x a b c d 10) 2 v) = RT x a v c d := by rw [RT_u]; unfold RT; rw [va_us, u9_2]
theorem RT_3 {x : Nat → Rw} {a b c d v : Int32} : va_up (RT x a b c d) 10 (upd (RT x a b c d 10) 3 v) = RT x a b v d := by rw [RT_u]; unfold RT; rw [va_us, u9_3]
theorem RT_4 {x : Nat → Rw} {a b c d v : Int32} : va_up (RT x a b c d) 10 (upd (RT x a b c d 10) 4 v) = RT x a b c v := by rw [RT_u]; unfold RT; rw [va_us, u9_4]
theorem RT_in (x : Nat → Rw) : RT x (x 10 1) (x 10 2) (x 10 3) (x 10 4) = x := by
  have h : u9 (x 10) (x 10 1) (x 10 2) (x 10 3) (x 10 4) = x 10 := by
    funext p
    unfold u9
    split
    · next h => rw [h]
    · split
      · next h => rw [h]
      · split
        · next h => rw [h]
        · split
          · next h => rw [h]
          · rfl
  unfold RT
  rw [h, va_eta]
/-- x' is x but for the reader's fields and what is told -/
def xR (x x' : Nat → Rw) : Prop := ∀ k, k ≠ 2 → k ≠ 10 → x' k = x k
theorem xR.rf (x : Nat → Rw) : xR x x := fun _ _ _ => rfl
theorem xR.tr {a b c : Nat → Rw} (h : xR a b) (k : xR b c) : xR a c := fun q h1 h2 => (k q h1 h2).trans (h q h1 h2)
theorem xR.rt (x : Nat → Rw) (a b c d : Int32) : xR x (RT x a b c d) := fun _ _ h => va_un h
theorem xR.u2 {x y : Nat → Rw} {f : Rw} (h : xR x y) : xR x (va_up y 2 f) := fun k h1 h2 => (va_un h1).trans (h k h1 h2)
/-- the tape in z is the tape in x, bytes -/
def tpe (z x : Nat → Rw) : Prop := ∀ k, k < 120 → z 5 k = x 5 k ∧ (x 5 k).toInt8.toInt32 &&& 255 = x 5 k
theorem tpe.r {z x x' : Nat → Rw} (h : tpe z x) (hx : xR x x') : tpe z x' := fun k hk => by rw [hx 5 (by decide) (by decide)]; exact h k hk
theorem tpe.z {z z' x : Nat → Rw} (h : tpe z x) (hz : z' 5 = z 5) : tpe z' x := fun k hk => by rw [hz]; exact h k hk
def kP (t : CT) (r : Rw) (x : Nat → Rw) (tp : Nat) (s : Ps) (v : Option Value) : Array Value → State → Outcome → State → Prop := fun _ st oc t' =>
  ((OKs tp s ∧ oc = .returned v ∧ ∃ x', xR x x' ∧ RD tp s.2.2 (x' 10) ∧ x' 2 = s.2.1 ∧ cX t r x' t'.heap) ∨ (¬ OKs tp s ∧ oc = .threw (t.2.1 3) ∧ ∃ x', xR x x' ∧ x' 10 2 = m_fault s ∧ cX t r x' t'.heap)) ∧ va_F (cA t) st t'
theorem sR_blind {av : List Value} {t : CT} {r : Rw} {x : Nat → Rw} {κ : Nat × Nat × Nat} : FrameBlind (va_Pc av (fun U => cK t U ∧ cX t r x U.heap ∧ kS κ U U.heap)) := fun a U g mk h => ⟨h.1, cK.same (U := U.calling g mk a) rfl h.2.1, h.2.2.1, kS.same (U := U.calling g mk a) rfl h.2.2.2⟩
theorem sR_pre {t : CT} {r : Rw} {x : Nat → Rw} {κ : Nat × Nat × Nat} {s : State} {H : Heap} {As : List Value} (hK : cK t s) (hP : cX t r x H) (hE : kS κ s H) : ∀ U : State, U.heap = H → s.WarmedH U.vm → va_Pc As (fun U => cK t U ∧ cX t r x U.heap ∧ kS κ U U.heap) As.toArray U := fun U hU hW => ⟨rfl, hK.warm hW, by rw [hU]; exact hP, by rw [hU]; exact hE.warm hW⟩
section CC
variable {p : Program} {l : Launch} {e : Env} {R : Room} {s : State} {m : MethodId} {args : Array Value} {below : List Frame} {meth : Method} {c : Code} {H H0 : Heap} {locs : List Loc} {cells slots : Nat} {Q : State → Prop}
variable {cc : ByteArray} {pc nL : Nat} {ls : Array Slot} {rest : List Value} {t : CT} {r : Rw} {a : Array Value} {free A1 : Nat → Prop} {st0 : List Value} {x : Nat → Rw}
theorem kk_P {tp : Nat} {o : Ps} {v : Option Value} (hr : CallRunX p l e R s m args below meth c H locs cells slots 0 0 (F0 m pc ls st0) rest (kP t r x tp o v a) free) (hS : va_S (cA t) H0 H locs) (hf : ∀ q, free q → cA t q)
    (kr : OKs tp o → ∀ (x' : Nat → Rw) (H1 : Heap) (locs1 : List Loc), xR x x' → RD tp o.2.2 (x' 10) → x' 2 = o.2.1 → cX t r x' H1 → va_S (cA t) H0 H1 locs1 → W p l e R s m args below meth c H1 locs1 cells slots Q (F0 m (pc + 3) ls (v.toList ++ rest)))
    (kt : ¬ OKs tp o → ∀ (x' : Nat → Rw) (H1 : Heap) (locs1 : List Loc), xR x x' → x' 10 2 = m_fault o → cX t r x' H1 → va_S (cA t) H0 H1 locs1 → WT p l e R s m args below meth c H1 locs1 cells slots Q (F0 m pc ls rest) (t.2.1 3)) : W p l e R s m args below meth c H locs cells slots Q (F0 m pc ls st0) := by
  intro T hT X
  obtain ⟨o', st₀, t', T', L, h0, X', hL, e1, ⟨hv, hz, hk⟩, st⟩ := hr T hT X
  rw [h0] at hz hk
  have hS1 : va_S (cA t) H0 T'.heap (locs ++ L) := ⟨Nat.le_trans hS.1 (by rw [e1]; exact hz), fun q h1 h2 => by rw [e1, hk q (Nat.lt_of_lt_of_le h1 hS.1) h2]; exact hS.2.1 q h1 h2, fun q hq => by
      rcases List.mem_append.mp hq with h | h
      · exact hS.2.2 q h
      · exact hf _ (hL q h)⟩
  rcases hv with ⟨h1, h2, x', h3, h4, h5, h6⟩ | ⟨h1, h2, x', h3, h4, h6⟩
  · subst h2
    obtain ⟨t2, a1, b1⟩ := kr h1 x' T'.heap (locs ++ L) h3 h4 h5 (by rw [e1]; exact h6) hS1 T' rfl X'
    exact ⟨t2, st t2 a1, b1⟩
  · subst h2
    obtain ⟨t2, a1, b1⟩ := kt h1 x' T'.heap (locs ++ L) h3 h4 (by rw [e1]; exact h6) hS1 T' rfl X'
    exact ⟨t2, st t2 a1, b1⟩
theorem kp_out {tp : Nat} {o : Ps} {v : Option Value} {x1 : Nat → Rw} (hno : ∀ (z : ExceptionTableEntry), z ∈ c.exceptionTable.toList → False) (hlk : meth.locks = false) (hS : va_S (cA t) s.heap H locs) (ho : ¬ OKs tp o) (hx : xR x x1) (h2 : x1 10 2 = m_fault o) (hP : cX t r x1 H) : WT p l e R s m args below meth c H locs cells slots (MQX below (kP t r x tp o v) args s cells slots (cA t)) (F0 m pc ls rest) (t.2.1 3) :=
  WT.out rfl rfl rfl (fun q hq => (hno q hq).elim) hlk (fun t' ht _ => ⟨Or.inr ⟨ho, rfl, x1, hx, h2, by rw [ht]; exact hP⟩, hS.F ht⟩) hS.2.2
theorem kp_vret {tp : Nat} {o : Ps} {x1 : Nat → Rw} {own : String} (S : CallFix p m c cc nL s args lw_all own) (hr : meth.sig.returnType = none) (hlk : meth.locks = false) (hS : va_S (cA t) s.heap H locs) (ho : OKs tp o) (hx : xR x x1) (hR : RD tp o.2.2 (x1 10)) (h2 : x1 2 = o.2.1) (hP : cX t r x1 H) (hdg : decode cc pc = .ok (.return_, 1)) : W p l e R s m args below meth c H locs cells slots (MQX below (kP t r x tp o none) args s cells slots (cA t)) (F0 m pc ls []) :=
  W.mono (fun _ h => MQ.x h) (W.vret S.1 S.2.1 hr (fun t' ht _ => ⟨Or.inl ⟨ho, rfl, x1, hx, hR, h2, by rw [ht]; exact hP⟩, hS.F ht⟩) hS.2.2 hdg hlk)
theorem kp_iret {tp : Nat} {o : Ps} {v v' : Int32} {x1 : Nat → Rw} {own : String} (S : CallFix p m c cc nL s args lw_all own) (hr : meth.sig.returnType = some .int) (hlk : meth.locks = false) (hS : va_S (cA t) s.heap H locs) (ho : OKs tp o) (hx : xR x x1) (hR : RD tp o.2.2 (x1 10)) (h2 : x1 2 = o.2.1) (hP : cX t r x1 H) (hv : v = v') (hdg : decode cc pc = .ok (.ireturn, 1)) : W p l e R s m args below meth c H locs cells slots (MQX below (kP t r x tp o (some (.int v'))) args s cells slots (cA t)) (F0 m pc ls [.int v]) := by
  subst hv
  exact W.mono (fun _ h => MQ.x h) (W.iret S.1 S.2.1 hr (fun t' ht _ => ⟨Or.inl ⟨ho, rfl, x1, hx, hR, h2, by rw [ht]; exact hP⟩, hS.F ht⟩) hS.2.2 hdg hlk)
end CC
set_option maxHeartbeats 4000000 in
set_option maxRecDepth 100000 in
theorem k2_isDigit (l : Launch) (t : CT) (r : Rw) (x : Nat → Rw) (v : Int32) : Met l yX2_isDigit (ws_ yX2_isDigit cX2_isDigit 1 (some .boolean)) (rmF 1) (va_Pc [.int v] (fun U => cK t U ∧ cX t r x U.heap)) (kR (some (.int (b2i (dgt v))))) 0 0 (fun _ => False) := by
  refine kk_start (by decide) (Nat.le_of_ble_eq_true rfl) ?_
  intro p e s m below meth c S hr hlk hin hB ls hl
  obtain ⟨hK, hP⟩ := hB
  have hx := S.1
  have hb := S.2.1
  have hown : s.vm.findClass RX2 = some m.cls := S.2.2.2.1
  have hts := S.2.2.2.2
  have hl : lv_has ls 1 [(0, .int (v))] := hl
  refine lv_iload_n hx hb dX2_isDigit_0 rfl (lv_at hl 0 rfl) ?_
  refine lv_bipush (v := 48) hx hb dX2_isDigit_1 (by decide) ?_
  refine lv_bipush (v := 57) hx hb dX2_isDigit_3 (by decide) ?_
  refine cc_in_X2 S hK (rm_ok (Nat.le_of_ble_eq_true rfl)) hl.1 (Nat.le_of_ble_eq_true rfl) dX2_isDigit_5 ?_
  exact kk_zretR (ty := .boolean) S hr hlk rfl rfl (Iff.rfl) dX2_isDigit_8
set_option maxHeartbeats 4000000 in
set_option maxRecDepth 100000 in
theorem k2_isLetter (l : Launch) (t : CT) (r : Rw) (x : Nat → Rw) (v : Int32) : Met l yX2_isLetter (ws_ yX2_isLetter cX2_isLetter 1 (some .boolean)) (rmF 1) (va_Pc [.int v] (fun U => cK t U ∧ cX t r x U.heap)) (kR (some (.int (b2i (ltr v))))) 0 0 (fun _ => False) := by
  refine kk_start (by decide) (Nat.le_of_ble_eq_true rfl) ?_
  intro p e s m below meth c S hr hlk hin hB ls hl
  obtain ⟨hK, hP⟩ := hB
  have hx := S.1
  have hb := S.2.1
  have hown : s.vm.findClass RX2 = some m.cls := S.2.2.2.1
  have hts := S.2.2.2.2
  have hl : lv_has ls 1 [(0, .int (v))] := hl
  refine lv_iload_n hx hb dX2_isLetter_0 rfl (lv_at hl 0 rfl) ?_
  refine lv_bipush (v := 97) hx hb dX2_isLetter_1 (by decide) ?_
  refine lv_bipush (v := 122) hx hb dX2_isLetter_3 (by decide) ?_
  refine cc_in_X2 S hK (rm_ok (Nat.le_of_ble_eq_true rfl)) hl.1 (Nat.le_of_ble_eq_true rfl) dX2_isLetter_5 ?_
  exact kk_zretR (ty := .boolean) S hr hlk rfl rfl (Iff.rfl) dX2_isLetter_8
set_option maxHeartbeats 4000000 in
set_option maxRecDepth 100000 in
theorem k2_byteAt (l : Launch) (t : CT) (r : Rw) (x : Nat → Rw) (k : Nat) (tp : Nat) (z : Nat → Rw) (hu0 : x 10 0 = nI tp) (h120 : tp ≤ 120) (htz : tpe z x) (hk : k < 2 ^ 31) : Met l yX2_byteAt (ws_ yX2_byteAt cX2_byteAt 2 (some .int)) (rmF 0) (va_Pc [.ref (t.2.1 1), .int (nI k)] (fun U => cK t U ∧ cX t r x U.heap)) (kR (some (.int (mB z tp k)))) 0 0 (fun _ => False) := by
  refine kk_start (by decide) (Nat.le_of_ble_eq_true rfl) ?_
  intro p e s m below meth c S hr hlk hin hB ls hl
  obtain ⟨hK, hP⟩ := hB
  have hx := S.1
  have hb := S.2.1
  have hown : s.vm.findClass RX2 = some m.cls := S.2.2.2.1
  have hts := S.2.2.2.2
  have hl : lv_has ls 2 [(0, .ref (t.2.1 1)), (1, .int ((nI k)))] := hl
  refine lv_iload_n hx hb dX2_byteAt_0 rfl (lv_at hl 1 rfl) ?_
  refine lv_aload_n hx hb dX2_byteAt_1 rfl (lv_at hl 0 rfl) ?_
  refine rg_length S hK hP dX2_byteAt_2 ?_
  refine kb_ge_n (tgt := 21) (a := k) (b := tp) S rfl hu0 (by omega) (by omega) dX2_byteAt_5 (by decide) (fun c_5 => ?_) (fun c_5 => ?_)
  · skip
    refine lv_iconst (v := (-1)) hx hb dX2_byteAt_21 (by decide) ?_
    exact kk_iretR S hr hlk rfl rfl ((mB_out c_5).symm) dX2_byteAt_22
  · skip
    refine lv_aload_n hx hb dX2_byteAt_8 rfl (lv_at hl 0 rfl) ?_
    refine rg_tape S hK hP dX2_byteAt_9 ?_
    refine lv_iload_n hx hb dX2_byteAt_12 rfl (lv_at hl 1 rfl) ?_
    refine ck_ldT S hK hP (k) (by omega) rfl dX2_byteAt_13 ?_
    refine lv_sipush (v := 255) hx hb dX2_byteAt_14 (by decide) ?_
    refine lv_iand hx hb dX2_byteAt_17 ?_
    refine lv_goto (tgt := 22) hx hb dX2_byteAt_18 (by decide) ?_
    exact kk_iretR S hr hlk rfl rfl (by rw [mB_in c_5, (htz k (by omega)).1]; exact (htz k (by omega)).2) dX2_byteAt_22
set_option maxHeartbeats 4000000 in
set_option maxRecDepth 100000 in
theorem k2_need (l : Launch) (t : CT) (r : Rw) (x : Nat → Rw) (P : Prop) [Decidable P] : MetX l yX2_need (ws_ yX2_need cX2_need 2 none) (rmF 0) (va_Pc [.ref (t.2.1 1), .int (b2i P)] (fun U => cK t U ∧ cX t r x U.heap)) (kX (if P then .returned none else .threw (t.2.1 3)) (cX t r x) (cA t)) 0 0 (cA t) := by
  refine kk_startX (by decide) (Nat.le_of_ble_eq_true rfl) ?_
  intro p e s m below meth c S hr hlk hin hB ls hl
  obtain ⟨hK, hP⟩ := hB
  have hx := S.1
  have hb := S.2.1
  have hown : s.vm.findClass RX2 = some m.cls := S.2.2.2.1
  have hts := S.2.2.2.2
  have hS : va_S (cA t) s.heap s.heap [] := va_S.rf
  have hl : lv_has ls 2 [(0, .ref (t.2.1 1)), (1, .int ((b2i P)))] := hl
  refine lv_iload_n hx hb dX2_need_0 rfl (lv_at hl 1 rfl) ?_
  refine kb_ifne (tgt := 9) S dX2_need_1 (by decide) (fun c_1 => ?_) (fun c_1 => ?_)
  · skip
    rw [if_pos c_1]
    exact kk_vretX S hr hlk hS hP dX2_need_9
  · skip
    refine lv_aload_n hx hb dX2_need_4 rfl (lv_at hl 0 rfl) ?_
    refine rg_wrong S hK hP dX2_need_5 ?_
    refine W.athrow hx hb rfl rfl dX2_need_8 ?_
    rw [if_neg c_1]
    exact cx_out hin hlk hS hP
section CC
variable {p : Program} {l : Launch} {e : Env} {R : Room} {s : State} {m : MethodId} {args : Array Value} {below : List Frame} {meth : Method} {c : Code} {H H0 : Heap} {locs : List Loc} {cells slots : Nat} {Q : State → Prop}
variable {cc : ByteArray} {pc nL : Nat} {ls : Array Slot} {rest : List Value} {t : CT} {r : Rw} {x : Nat → Rw}
theorem rc_isDigit (S : CallFix p m c cc nL s args lw_all RX2) (hK : cK t s) (hP : cX t r x H) (hR : kRm R 2 cells slots) (hsz : ls.size = nL) {v : Int32} (hrest : (rest.map fun v => v.category).sum ≤ 8) (hdg : decode cc pc = .ok (.invokestatic 57, 3)) (kk : W p l e R s m args below meth c H locs cells slots Q (F0 m (pc + 3) ls (.int (b2i (dgt v)) :: rest))) : W p l e R s m args below meth c H locs cells slots Q (F0 m pc ls (.int v :: rest)) := by
  exact kk_Ri (W.runS (As := [.int v]) (rest := rest) S (k2_isDigit l t r x v) (va_cwS 1 S.2.2.2.2 (lw_S q1091 q1092 q106 q1093) rfl rfl rfl (by decide +kernel) ⟨hR.1, by have := hR.2.1; show 8 + (1 + 11) + 38 * 1 ≤ R.locals; omega⟩) ⟨c_blind, c_pre hK hP⟩ rfl rfl hsz rfl (lv_room hrest) hdg ⟨hR.2.2.1, hR.2.2.2⟩) kk
theorem rc_isLetter (S : CallFix p m c cc nL s args lw_all RX2) (hK : cK t s) (hP : cX t r x H) (hR : kRm R 2 cells slots) (hsz : ls.size = nL) {v : Int32} (hrest : (rest.map fun v => v.category).sum ≤ 8) (hdg : decode cc pc = .ok (.invokestatic 50, 3)) (kk : W p l e R s m args below meth c H locs cells slots Q (F0 m (pc + 3) ls (.int (b2i (ltr v)) :: rest))) : W p l e R s m args below meth c H locs cells slots Q (F0 m pc ls (.int v :: rest)) := by
  exact kk_Ri (W.runS (As := [.int v]) (rest := rest) S (k2_isLetter l t r x v) (va_cwS 1 S.2.2.2.2 (lw_S q1034 q1035 q106 q1036) rfl rfl rfl (by decide +kernel) ⟨hR.1, by have := hR.2.1; show 8 + (1 + 11) + 38 * 1 ≤ R.locals; omega⟩) ⟨c_blind, c_pre hK hP⟩ rfl rfl hsz rfl (lv_room hrest) hdg ⟨hR.2.2.1, hR.2.2.2⟩) kk
theorem rc_byteAt (S : CallFix p m c cc nL s args lw_all RX2) (hK : cK t s) (hP : cX t r x H) (hR : kRm R 1 cells slots) (hsz : ls.size = nL) (k : Nat) (tp : Nat) (z : Nat → Rw) (hu0 : x 10 0 = nI tp) (h120 : tp ≤ 120) (htz : tpe z x) (hk : k < 2 ^ 31) {i0 : Int32} (e0 : i0 = nI k) (hrest : (rest.map fun v => v.category).sum ≤ 8) (hdg : decode cc pc = .ok (.invokevirtual 40, 3)) (kk : W p l e R s m args below meth c H locs cells slots Q (F0 m (pc + 3) ls (.int (mB z tp k) :: rest))) : W p l e R s m args below meth c H locs cells slots Q (F0 m pc ls (.int i0 :: .ref (t.2.1 1) :: rest)) := by
  subst e0
  exact kk_Ri (W.runV (As := [.int (nI k)]) (rest := rest) S (k2_byteAt l t r x k tp z hu0 h120 htz hk) (cwV 1 S.2.2.2.2 (lw_V q1030 q1032 qs39 q106 q1033) rfl rfl rfl (by decide +kernel) ⟨hR.1, by have := hR.2.1; show 8 + (2 + 11) + 38 * 0 ≤ R.locals; omega⟩) ⟨c_blind, c_recvR hK hP, c_pre hK hP⟩ rfl rfl hsz rfl (lv_room hrest) hdg ⟨hR.2.2.1, hR.2.2.2⟩) kk
theorem rc_need (S : CallFix p m c cc nL s args lw_all RX2) (hK : cK t s) (hP : cX t r x H) (hS : va_S (cA t) H0 H locs) (hR : kRm R 1 cells slots) (hsz : ls.size = nL) {P : Prop} [Decidable P] (hrest : (rest.map fun v => v.category).sum ≤ 8) (hdg : decode cc pc = .ok (.invokevirtual 63, 3)) (kr : P → ∀ (H1 : Heap) (locs1 : List Loc), cX t r x H1 → va_S (cA t) H0 H1 locs1 → W p l e R s m args below meth c H1 locs1 cells slots Q (F0 m (pc + 3) ls rest)) (kt : ¬ P → ∀ (H1 : Heap) (locs1 : List Loc), cX t r x H1 → va_S (cA t) H0 H1 locs1 → WT p l e R s m args below meth c H1 locs1 cells slots Q (F0 m pc ls rest) (t.2.1 3)) : W p l e R s m args below meth c H locs cells slots Q (F0 m pc ls (.int (b2i P) :: .ref (t.2.1 1) :: rest)) := by
  refine kk_X (W.runX (As := [.int (b2i P)]) (rest := rest) (maxL := 2) S (k2_need l t r x P) rfl rfl hR.1 (by have := hR.2.1; show 8 + (2 + 11) + 38 * 0 ≤ R.locals; omega) (pay_in S.2.2.2.2 (lw_meth q1090)) (fun U hW => LocX.code (pay_in S.2.2.2.2 (lw_meth q1090) _ List.mem_cons_self #[] U hW)) (S.2.2.2.2 _ q106) ⟨by decide, by decide⟩ (show (parseMethodDescriptor yX2_need.desc).map (fun d => d.parameters.length) = some 1 from by decide +kernel) (S.2.2.2.2 _ q1087) (S.2.2.2.2 _ q1089) (S.2.2.2.2 _ qs42) ⟨c_blind, c_recvR hK hP, c_pre hK hP⟩ rfl hsz rfl (lv_room hrest) hdg ⟨hR.2.2.1, hR.2.2.2⟩) hS (fun _ h => h) (fun _ h => h) (fun v' hv H1 locs1 hB _ _ hS => ?_) (fun x' hx H1 locs1 hB _ _ hS => ?_)
  · by_cases hp : P
    · rw [if_pos hp] at hv; cases hv; exact kr hp H1 locs1 hB hS
    · rw [if_neg hp] at hv; cases hv
  · by_cases hp : P
    · rw [if_pos hp] at hx; cases hx
    · rw [if_neg hp] at hx; cases hx; exact kt hp H1 locs1 hB hS
end CC
section CC
variable {p : Program} {l : Launch} {e : Env} {R : Room} {s : State} {m : MethodId} {args : Array Value} {below : List Frame} {meth : Method} {c : Code} {H H0 : Heap} {locs : List Loc} {cells slots : Nat} {Q : State → Prop}
variable {cc : ByteArray} {pc nL : Nat} {ls : Array Slot} {rest : List Value} {t : CT} {r : Rw} {x : Nat → Rw}
theorem rc_need1 (S : CallFix p m c cc nL s args lw_all RX2) (hK : cK t s) (hP : cX t r x H) (hS : va_S (cA t) H0 H locs) (hR : kRm R 1 cells slots) (hsz : ls.size = nL) (hrest : (rest.map fun v => v.category).sum ≤ 8) (hdg : decode cc pc = .ok (.invokevirtual 63, 3)) (kk : ∀ (H1 : Heap) (locs1 : List Loc), cX t r x H1 → va_S (cA t) H0 H1 locs1 → W p l e R s m args below meth c H1 locs1 cells slots Q (F0 m (pc + 3) ls rest)) : W p l e R s m args below meth c H locs cells slots Q (F0 m pc ls (.int 1 :: .ref (t.2.1 1) :: rest)) :=
  rc_need S hK hP hS hR hsz (P := True) hrest hdg (fun _ => kk) (fun h => (h trivial).elim)
theorem rc_need0 (S : CallFix p m c cc nL s args lw_all RX2) (hK : cK t s) (hP : cX t r x H) (hS : va_S (cA t) H0 H locs) (hR : kRm R 1 cells slots) (hsz : ls.size = nL) (hrest : (rest.map fun v => v.category).sum ≤ 8) (hdg : decode cc pc = .ok (.invokevirtual 63, 3)) (kk : ∀ (H1 : Heap) (locs1 : List Loc), cX t r x H1 → va_S (cA t) H0 H1 locs1 → WT p l e R s m args below meth c H1 locs1 cells slots Q (F0 m pc ls rest) (t.2.1 3)) : W p l e R s m args below meth c H locs cells slots Q (F0 m pc ls (.int 0 :: .ref (t.2.1 1) :: rest)) :=
  rc_need S hK hP hS hR hsz (P := False) hrest hdg (fun h => h.elim) (fun _ => kk)
end CC

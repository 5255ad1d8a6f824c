/-! COMPONENT: refusals that fly; rows found for sheets -/
def cOx (t : CT) (o : Option Nat) (v : Option Value) : Outcome := match o with
  | none => .returned v
  | some _ => .threw (t.2.1 2)
def cIx (x : Nat → Rw) (o : Option Nat) : Nat → Rw := match o with
  | none => x
  | some j => va_up x 12 (upd (x 12) 0 (nI j))
section CC
variable {p : Program} {l : Launch} {e : Env} {R : Room} {s : State} {m : MethodId} {args : Array Value} {below : List Frame} {meth : Method} {c : Code} {H H0 : Heap} {locs : List Loc} {cells slots : Nat} {Q : State → Prop}
variable {cc : ByteArray} {pc nL : Nat} {ls : Array Slot} {rest : List Value} {t : CT} {r : Rw} {a : Array Value} {free A0 A1 : Nat → Prop} {st0 : List Value} {x : Nat → Rw}
theorem kk_O {o : Option Nat} {v : Option Value} (hr : CallRunX p l e R s m args below meth c H locs cells slots 0 0 (F0 m pc ls st0) rest (kX (cOx t o v) (cX t r (cIx x o)) A1 a) free) (hS : va_S A0 H0 H locs) (hA : ∀ q, A1 q → A0 q) (hf : ∀ q, free q → A0 q)
    (kr : o = none → ∀ (H1 : Heap) (locs1 : List Loc), cX t r x H1 → va_S A0 H0 H1 locs1 → W p l e R s m args below meth c H1 locs1 cells slots Q (F0 m (pc + 3) ls (v.toList ++ rest)))
    (kt : ∀ j, o = some j → ∀ (H1 : Heap) (locs1 : List Loc), cX t r (va_up x 12 (upd (x 12) 0 (nI j))) H1 → va_S A0 H0 H1 locs1 → WT p l e R s m args below meth c H1 locs1 cells slots Q (F0 m pc ls rest) (t.2.1 2)) : W p l e R s m args below meth c H locs cells slots Q (F0 m pc ls st0) := by
  cases o with
  | none => exact kk_X hr hS hA hf (fun v' hv H1 locs1 hB _ _ hS => by cases hv; exact kr rfl H1 locs1 hB hS) (fun x' hx => by cases hx)
  | some j => exact kk_X hr hS hA hf (fun v' hv => by cases hv) (fun x' hx H1 locs1 hB _ _ hS => by cases hx; exact kt j rfl H1 locs1 hB hS)
theorem cx_catch (S : CallFix p m c cc nL s args lw_all RX0) (hK : cK t s) (hP : cX t r x H) {a0 b0 h0 : Nat} (hex : c.exceptionTable.toList.map (fun h => (h.startPc, h.endPc, h.handlerPc, h.catchType)) = [(a0, b0, h0, 49)]) (ha : a0 ≤ pc) (hb : pc < b0)
    (kk : W p l e R s m args below meth c H locs cells slots Q (F0 m h0 ls [.ref (t.2.1 2)])) : WT p l e R s m args below meth c H locs cells slots Q (F0 m pc ls rest) (t.2.1 2) := by
  obtain ⟨ent, ht, he⟩ : ∃ ent, c.exceptionTable.toList = [ent] ∧ (ent.startPc, ent.endPc, ent.handlerPc, ent.catchType) = (a0, b0, h0, 49) := by
    cases h : c.exceptionTable.toList with
    | nil => rw [h] at hex; cases hex
    | cons z zs =>
      rw [h, List.map_cons] at hex
      injection hex with h1 h2
      have : zs = [] := List.map_eq_nil_iff.mp h2
      subst this
      exact ⟨z, rfl, h1⟩
  have h1 : ent.startPc = a0 := congrArg (fun q => q.1) he
  have h2 : ent.endPc = b0 := congrArg (fun q => q.2.1) he
  have h3 : ent.handlerPc = h0 := congrArg (fun q => q.2.2.1) he
  have h4 : ent.catchType = 49 := congrArg (fun q => q.2.2.2) he
  obtain ⟨cell, hc1, hc2, hc3⟩ : ∃ cell : Cell, H[t.2.1 2]? = some cell ∧ cell.vm.isStatics = false ∧ s.vm.findClass "ThunderCasks$Refusal" = some cell.cls := va_recv hK.1 (co_P1 (hP 0 2 (by decide) (by decide))) (ci := 3) (q0 := 0) (q := (RX1, TX1, 7)) rfl rfl
  refine WT.catchC (own := RX0) (nm := "ThunderCasks$Refusal") rfl S.2.2.2.1 ht ?_ (by rw [h4]; decide) (by rw [h4]; exact S.2.2.2.2 _ q133) hc3 hc1 hc2 (va_asg _ _) ?_
  · show covers ent pc = true
    unfold covers
    rw [h1, h2]
    simp [ha, hb]
  · rw [h3]; exact kk
theorem cx_out {B : Heap → Prop} {z : Addr} (hno : ∀ (z : ExceptionTableEntry), z ∈ c.exceptionTable.toList → False) (hlk : meth.locks = false) (hS : va_S A0 s.heap H locs) (hB : B H) : WT p l e R s m args below meth c H locs cells slots (MQX below (kX (.threw z) B A0) args s cells slots A0) (F0 m pc ls rest) z :=
  WT.out rfl rfl rfl (fun q hq => (hno q hq).elim) hlk (fun t ht _ => ⟨rfl, by rw [ht]; exact hB, hS.F ht⟩) hS.2.2
theorem kk_vretX {B : Heap → Prop} {own : String} (S : CallFix p m c cc nL s args lw_all own) (hr : meth.sig.returnType = none) (hlocks : meth.locks = false) (hS : va_S A0 s.heap H locs) (hB : B H) (hdg : decode cc pc = .ok (.return_, 1)) : W p l e R s m args below meth c H locs cells slots (MQX below (kX (.returned none) B A0) args s cells slots A0) (F0 m pc ls []) :=
  W.mono (fun _ h => MQ.x h) (kk_vretW S hr hlocks hS hB hdg)
theorem kk_aretX {v : Value} {rt : FieldType} {B : Heap → Prop} {own : String} (S : CallFix p m c cc nL s args lw_all own) (hr : meth.sig.returnType = some rt) (hrt : (∃ n, rt = .object n) ∨ ∃ t, rt = .array t) (hn : v = .null ∨ ∃ a, v = .ref a) (hlocks : meth.locks = false) (hS : va_S A0 s.heap H locs) (hB : B H) (hdg : decode cc pc = .ok (.areturn, 1)) : W p l e R s m args below meth c H locs cells slots (MQX below (kX (.returned (some v)) B A0) args s cells slots A0) (F0 m pc ls [v]) :=
  W.mono (fun _ h => MQ.x h) (kk_aretW S hr hrt hn hlocks hS hB rfl hdg)
end CC
set_option maxHeartbeats 4000000 in
set_option maxRecDepth 100000 in
theorem k0_refused (l : Launch) (t : CT) (r : Rw) (x : Nat → Rw) (j : Nat) (hj : j < 7) : Met l yX0_refused (ws_ yX0_refused cX0_refused 2 (some (.object "ThunderCasks$Refusal"))) (rmF 0) (va_Pc [.ref (t.2.1 0), .int (nI j)] (fun U => cK t U ∧ cX t r x U.heap)) (kW (some (.ref (t.2.1 2))) (cX t (r) (va_up x 12 (upd (x 12) 0 (nI j)))) (cA t)) 0 0 (cA t) := by
  refine kk_start (by decide) (Nat.le_of_ble_eq_true rfl) ?_
  intro p e s m below meth c S hr hlk hin hB ls hl
  obtain ⟨hK, hP⟩ := hB
  have hx := S.1
  have hb := S.2.1
  have hown : s.vm.findClass RX0 = some m.cls := S.2.2.2.1
  have hts := S.2.2.2.2
  have hS : va_S (cA t) s.heap s.heap [] := va_S.rf
  have hl : lv_has ls 2 [(0, .ref (t.2.1 0)), (1, .int ((nI j)))] := hl
  refine lv_aload_n hx hb dX0_refused_0 rfl (lv_at hl 0 rfl) ?_
  refine cg_refusal S hK hP dX0_refused_1 ?_
  refine lv_iload_n hx hb dX0_refused_4 rfl (lv_at hl 1 rfl) ?_
  refine cpr_finding S hK hP hS (fun _ h => h) dX0_refused_5 (fun H locs hP hS => ?_)
  refine lv_aload_n hx hb dX0_refused_8 rfl (lv_at hl 0 rfl) ?_
  refine cg_refusal S hK hP dX0_refused_9 ?_
  exact kk_aretW S hr (Or.inl ⟨_, rfl⟩) (Or.inr ⟨_, rfl⟩) hlk hS (hP) (rfl) dX0_refused_12
section CC
variable {p : Program} {l : Launch} {e : Env} {R : Room} {s : State} {m : MethodId} {args : Array Value} {below : List Frame} {meth : Method} {c : Code} {H H0 : Heap} {locs : List Loc} {cells slots : Nat} {Q : State → Prop}
variable {cc : ByteArray} {pc nL : Nat} {ls : Array Slot} {rest : List Value} {t : CT} {r : Rw} {x : Nat → Rw}
theorem cc_refused (S : CallFix p m c cc nL s args lw_all RX0) (hK : cK t s) (hP : cX t r x H) (hS : va_S (cA t) H0 H locs) (hR : kRm R 1 cells slots) (hsz : ls.size = nL) (j : Nat) (hj : j < 7) {i0 : Int32} (e0 : i0 = nI j) (hrest : (rest.map fun v => v.category).sum ≤ 8) (hdg : decode cc pc = .ok (.invokevirtual 110, 3)) (kk : ∀ (H1 : Heap) (locs1 : List Loc), cX t (r) (va_up x 12 (upd (x 12) 0 (nI j))) H1 → va_S (cA t) H0 H1 locs1 → W p l e R s m args below meth c H1 locs1 cells slots Q (F0 m (pc + 3) ls (.ref (t.2.1 2) :: rest))) : W p l e R s m args below meth c H locs cells slots Q (F0 m pc ls (.int i0 :: .ref (t.2.1 0) :: rest)) := by
  subst e0
  exact kk_Wa (W.runV (As := [.int (nI j)]) (rest := rest) S (k0_refused l t r x j hj) (cwV 1 S.2.2.2.2 (lw_V q952 q954 qs33 q101 q955) rfl rfl rfl (by decide +kernel) ⟨hR.1, by have := hR.2.1; show 8 + (2 + 11) + 38 * 0 ≤ R.locals; omega⟩) ⟨c_blind, c_recv hK hP, c_pre hK hP⟩ rfl rfl hsz rfl (lv_room hrest) hdg ⟨hR.2.2.1, hR.2.2.2⟩) hS (fun _ h => h) (fun _ h => h) (fun H1 locs1 hB _ _ hS => kk H1 locs1 hB hS)
end CC
set_option maxHeartbeats 4000000 in
set_option maxRecDepth 100000 in
theorem k0_need (l : Launch) (t : CT) (r : Rw) (x : Nat → Rw) (P : Prop) [Decidable P] (j : Nat) (hj : j < 7) : MetX l yX0_need (ws_ yX0_need cX0_need 3 none) (rmF 1) (va_Pc [.ref (t.2.1 0), .int (b2i P), .int (nI j)] (fun U => cK t U ∧ cX t r x U.heap)) (kX (cOx t (if P then none else some j) none) (cX t r (cIx x (if P then none else some j))) (cA t)) 0 0 (cA t) := by
  refine kk_startX (by decide) (Nat.le_of_ble_eq_true rfl) ?_
  intro p e s m below meth c S hr hlk hin hB ls hl
  obtain ⟨hK, hP⟩ := hB
  have hx := S.1
  have hb := S.2.1
  have hown : s.vm.findClass RX0 = some m.cls := S.2.2.2.1
  have hts := S.2.2.2.2
  have hS : va_S (cA t) s.heap s.heap [] := va_S.rf
  have hl : lv_has ls 3 [(0, .ref (t.2.1 0)), (1, .int ((b2i P))), (2, .int ((nI j)))] := hl
  refine lv_iload_n hx hb dX0_need_0 rfl (lv_at hl 1 rfl) ?_
  refine kb_ifne (tgt := 10) S dX0_need_1 (by decide) (fun c_1 => ?_) (fun c_1 => ?_)
  · skip
    rw [if_pos c_1]; exact kk_vretX S hr hlk hS hP dX0_need_10
  · skip
    refine lv_aload_n hx hb dX0_need_4 rfl (lv_at hl 0 rfl) ?_
    refine lv_iload_n hx hb dX0_need_5 rfl (lv_at hl 2 rfl) ?_
    refine cc_refused S hK hP hS (rm_ok (Nat.le_of_ble_eq_true rfl)) hl.1 (j) (by omega) rfl (Nat.le_of_ble_eq_true rfl) dX0_need_6 (fun H locs hP hS => ?_)
    rw [if_neg c_1]
    refine W.athrow hx hb rfl rfl dX0_need_9 ?_
    exact cx_out hin hlk hS hP
section CC
variable {p : Program} {l : Launch} {e : Env} {R : Room} {s : State} {m : MethodId} {args : Array Value} {below : List Frame} {meth : Method} {c : Code} {H H0 : Heap} {locs : List Loc} {cells slots : Nat} {Q : State → Prop}
variable {cc : ByteArray} {pc nL : Nat} {ls : Array Slot} {rest : List Value} {t : CT} {r : Rw} {x : Nat → Rw}
theorem cc_need (S : CallFix p m c cc nL s args lw_all RX0) (hK : cK t s) (hP : cX t r x H) (hS : va_S (cA t) H0 H locs) (hR : kRm R 2 cells slots) (hsz : ls.size = nL) {P : Prop} [Decidable P] (j : Nat) (hj : j < 7) {i1 : Int32} (e1 : i1 = nI j) (hrest : (rest.map fun v => v.category).sum ≤ 8) (hdg : decode cc pc = .ok (.invokevirtual 302, 3)) (kr : (if P then none else some j) = none → ∀ (H1 : Heap) (locs1 : List Loc), cX t r x H1 → va_S (cA t) H0 H1 locs1 → W p l e R s m args below meth c H1 locs1 cells slots Q (F0 m (pc + 3) ls (rest))) (kt : ∀ jj, (if P then none else some j) = some jj → ∀ (H1 : Heap) (locs1 : List Loc), cX t r (va_up x 12 (upd (x 12) 0 (nI jj))) H1 → va_S (cA t) H0 H1 locs1 → WT p l e R s m args below meth c H1 locs1 cells slots Q (F0 m pc ls rest) (t.2.1 2)) : W p l e R s m args below meth c H locs cells slots Q (F0 m pc ls (.int i1 :: .int (b2i P) :: .ref (t.2.1 0) :: rest)) := by
  subst e1
  exact kk_O (W.runX (As := [.int (b2i P), .int (nI j)]) (rest := rest) (maxL := 3) S (k0_need l t r x P j hj) rfl rfl hR.1 (by have := hR.2.1; show 8 + (3 + 11) + 38 * 1 ≤ R.locals; omega) (pay_in S.2.2.2.2 (lw_meth q951)) (fun U hW => LocX.code (pay_in S.2.2.2.2 (lw_meth q951) _ List.mem_cons_self #[] U hW)) (S.2.2.2.2 _ q101) ⟨by decide, by decide⟩ (show (parseMethodDescriptor yX0_need.desc).map (fun d => d.parameters.length) = some 2 from by decide +kernel) (S.2.2.2.2 _ q948) (S.2.2.2.2 _ q950) (S.2.2.2.2 _ qs32) ⟨c_blind, c_recv hK hP, c_pre hK hP⟩ rfl hsz rfl (lv_room hrest) hdg ⟨hR.2.2.1, hR.2.2.2⟩) hS (fun _ h => h) (fun _ h => h) kr kt
end CC
theorem oif_n {P : Prop} [Decidable P] {j : Nat} : (if P then (none : Option Nat) else some j) = none ↔ P := by by_cases h : P <;> simp [h]
theorem oif_s {P : Prop} [Decidable P] {i j : Nat} : (if P then (none : Option Nat) else some j) = some i ↔ (¬ P ∧ j = i) := by by_cases h : P <;> simp [h]
set_option maxHeartbeats 4000000 in
set_option maxRecDepth 100000 in
theorem k0_rowAt (l : Launch) (t : CT) (r : Rw) (x : Nat → Rw) (v : Int32) : MetX l yX0_rowAt (ws_ yX0_rowAt cX0_rowAt 2 (some (.object "java/lang/Object"))) (rmF 2) (va_Pc [.ref (t.2.1 0), .int v] (fun U => cK t U ∧ cX t r x U.heap)) (kX (cOx t (if 0 ≤ v ∧ v < 4 then none else some 0) (some (va_rf (cG t v.toNatClampNeg)))) (cX t r (cIx x (if 0 ≤ v ∧ v < 4 then none else some 0))) (cA t)) 0 0 (cA t) := by
  refine kk_startX (by decide) (Nat.le_of_ble_eq_true rfl) ?_
  intro p e s m below meth c S hr hlk hin hB ls hl
  obtain ⟨hK, hP⟩ := hB
  have hx := S.1
  have hb := S.2.1
  have hown : s.vm.findClass RX0 = some m.cls := S.2.2.2.1
  have hts := S.2.2.2.2
  have hS : va_S (cA t) s.heap s.heap [] := va_S.rf
  have hl : lv_has ls 2 [(0, .ref (t.2.1 0)), (1, .int (v))] := hl
  refine lv_aload_n hx hb dX0_rowAt_0 rfl (lv_at hl 0 rfl) ?_
  refine lv_iload_n hx hb dX0_rowAt_1 rfl (lv_at hl 1 rfl) ?_
  refine cc_isSheet S (rm_ok (Nat.le_of_ble_eq_true rfl)) hl.1 (Nat.le_of_ble_eq_true rfl) dX0_rowAt_2 ?_
  refine lv_iconst (v := 0) hx hb dX0_rowAt_5 (by decide) ?_
  refine cc_need S hK hP hS (rm_ok (Nat.le_of_ble_eq_true rfl)) hl.1 (0) (by omega) rfl (Nat.le_of_ble_eq_true rfl) dX0_rowAt_6 (fun ho_6 H locs hP hS => ?_) (fun j_6 ho_6 H locs hP hS => ?_)
  · skip
    have hv4 := oif_n.mp ho_6
    obtain ⟨v_, hv_, rfl⟩ := nat_of_lt (n := 4) rfl (by omega) hv4
    have hcl_v_ := nI_clamp (n := v_) (by omega)
    refine lv_aload_n hx hb dX0_rowAt_9 rfl (lv_at hl 0 rfl) ?_
    refine cg_sheets S hK hP dX0_rowAt_10 ?_
    refine lv_iload_n hx hb dX0_rowAt_13 rfl (lv_at hl 1 rfl) ?_
    refine ca_sheets S hK hP (v_) (by omega) rfl dX0_rowAt_14 ?_
    refine ct_sheets S hK hP (v_) (by omega) dX0_rowAt_15 ?_
    rw [if_pos hv4, hcl_v_]; exact kk_aretX S hr (Or.inl ⟨_, rfl⟩) (va_rf_or _) hlk hS hP dX0_rowAt_18
  · skip
    obtain ⟨hv4, hj_⟩ := oif_s.mp ho_6
    subst hj_
    rw [if_neg hv4]
    exact cx_out hin hlk hS hP
section CC
variable {p : Program} {l : Launch} {e : Env} {R : Room} {s : State} {m : MethodId} {args : Array Value} {below : List Frame} {meth : Method} {c : Code} {H H0 : Heap} {locs : List Loc} {cells slots : Nat} {Q : State → Prop}
variable {cc : ByteArray} {pc nL : Nat} {ls : Array Slot} {rest : List Value} {t : CT} {r : Rw} {x : Nat → Rw}
theorem cc_rowAt (S : CallFix p m c cc nL s args lw_all RX0) (hK : cK t s) (hP : cX t r x H) (hS : va_S (cA t) H0 H locs) (hR : kRm R 3 cells slots) (hsz : ls.size = nL) {v : Int32} (hrest : (rest.map fun v => v.category).sum ≤ 8) (hdg : decode cc pc = .ok (.invokevirtual 298, 3)) (kr : (if 0 ≤ v ∧ v < 4 then none else some 0) = none → ∀ (H1 : Heap) (locs1 : List Loc), cX t r x H1 → va_S (cA t) H0 H1 locs1 → W p l e R s m args below meth c H1 locs1 cells slots Q (F0 m (pc + 3) ls (va_rf (cG t v.toNatClampNeg) :: rest))) (kt : ∀ jj, (if 0 ≤ v ∧ v < 4 then none else some 0) = some jj → ∀ (H1 : Heap) (locs1 : List Loc), cX t r (va_up x 12 (upd (x 12) 0 (nI jj))) H1 → va_S (cA t) H0 H1 locs1 → WT p l e R s m args below meth c H1 locs1 cells slots Q (F0 m pc ls rest) (t.2.1 2)) : W p l e R s m args below meth c H locs cells slots Q (F0 m pc ls (.int v :: .ref (t.2.1 0) :: rest)) := by
  exact kk_O (W.runX (As := [.int v]) (rest := rest) (maxL := 2) S (k0_rowAt l t r x v) rfl rfl hR.1 (by have := hR.2.1; show 8 + (2 + 11) + 38 * 2 ≤ R.locals; omega) (pay_in S.2.2.2.2 (lw_meth q944)) (fun U hW => LocX.code (pay_in S.2.2.2.2 (lw_meth q944) _ List.mem_cons_self #[] U hW)) (S.2.2.2.2 _ q101) ⟨by decide, by decide⟩ (show (parseMethodDescriptor yX0_rowAt.desc).map (fun d => d.parameters.length) = some 1 from by decide +kernel) (S.2.2.2.2 _ q941) (S.2.2.2.2 _ q943) (S.2.2.2.2 _ qs31) ⟨c_blind, c_recv hK hP, c_pre hK hP⟩ rfl hsz rfl (lv_room hrest) hdg ⟨hR.2.2.1, hR.2.2.2⟩) hS (fun _ h => h) (fun _ h => h) kr kt
end CC
set_option maxHeartbeats 4000000 in
set_option maxRecDepth 100000 in
theorem k0_length (l : Launch) (t : CT) (r : Rw) (x : Nat → Rw) (y : Nat → Rw) (a : Nat) (v : Nat) (hv : v < 4) (hg : cG t v = some a) : Met l yX0_length (ws_ yX0_length cX0_length 1 (some .int)) (rmF 0) (va_Pc [.ref a] (fun U => cK t U ∧ cX t r x U.heap ∧ cSh t y U.heap)) (kR (some (.int (y 7 v)))) 0 0 (fun _ => False) := by
  refine kk_start (by decide) (Nat.le_of_ble_eq_true rfl) ?_
  intro p e s m below meth c S hr hlk hin hB ls hl
  obtain ⟨hK, hP⟩ := hB
  have hx := S.1
  have hb := S.2.1
  have hown : s.vm.findClass RX0 = some m.cls := S.2.2.2.1
  have hts := S.2.2.2.2
  have hl : lv_has ls 1 [(0, .ref a)] := hl
  obtain ⟨hP, hQ⟩ := hP
  obtain ⟨hna, n_, hn40, hn7, har⟩ := hQ.row hv hg
  refine lv_aload_n hx hb dX0_length_0 rfl (lv_at hl 0 rfl) ?_
  rcases har with har | har | har
  · skip
    refine sh_inst8_376 S hK har dX0_length_1 ?_
    refine kb_eq0_n (tgt := 15) (a := 1) S rfl (by omega) dX0_length_4 (by decide) (fun c_4 => ?_) (fun c_4 => ?_)
    · exact absurd c_4 (by first | decide | omega)
    · skip
      refine lv_aload_n hx hb dX0_length_7 rfl (lv_at hl 0 rfl) ?_
      refine sh_cast8 S hK har dX0_length_8 ?_
      refine sh_len8 S hK har hn7 dX0_length_11 ?_
      refine lv_goto (tgt := 35) hx hb dX0_length_12 (by decide) ?_
      exact kk_iretR S hr hlk rfl rfl (rfl) dX0_length_35
  · skip
    refine sh_inst16_376 S hK har dX0_length_1 ?_
    refine kb_eq0_n (tgt := 15) (a := 0) S rfl (by omega) dX0_length_4 (by decide) (fun c_4 => ?_) (fun c_4 => ?_)
    · skip
      refine lv_aload_n hx hb dX0_length_15 rfl (lv_at hl 0 rfl) ?_
      refine sh_inst16_377 S hK har dX0_length_16 ?_
      refine kb_eq0_n (tgt := 30) (a := 1) S rfl (by omega) dX0_length_19 (by decide) (fun c_19 => ?_) (fun c_19 => ?_)
      · exact absurd c_19 (by first | decide | omega)
      · skip
        refine lv_aload_n hx hb dX0_length_22 rfl (lv_at hl 0 rfl) ?_
        refine sh_cast16 S hK har dX0_length_23 ?_
        refine sh_len16 S hK har hn7 dX0_length_26 ?_
        refine lv_goto (tgt := 35) hx hb dX0_length_27 (by decide) ?_
        exact kk_iretR S hr hlk rfl rfl (rfl) dX0_length_35
    · exact absurd c_4 (by first | decide | omega)
  · skip
    refine sh_inst32_376 S hK har dX0_length_1 ?_
    refine kb_eq0_n (tgt := 15) (a := 0) S rfl (by omega) dX0_length_4 (by decide) (fun c_4 => ?_) (fun c_4 => ?_)
    · skip
      refine lv_aload_n hx hb dX0_length_15 rfl (lv_at hl 0 rfl) ?_
      refine sh_inst32_377 S hK har dX0_length_16 ?_
      refine kb_eq0_n (tgt := 30) (a := 0) S rfl (by omega) dX0_length_19 (by decide) (fun c_19 => ?_) (fun c_19 => ?_)
      · skip
        refine lv_aload_n hx hb dX0_length_30 rfl (lv_at hl 0 rfl) ?_
        refine sh_cast32 S hK har dX0_length_31 ?_
        refine sh_len32 S hK har hn7 dX0_length_34 ?_
        exact kk_iretR S hr hlk rfl rfl (rfl) dX0_length_35
      · exact absurd c_19 (by first | decide | omega)
    · exact absurd c_4 (by first | decide | omega)
set_option maxHeartbeats 4000000 in
set_option maxRecDepth 100000 in
theorem k0_number (l : Launch) (t : CT) (r : Rw) (x : Nat → Rw) (y : Nat → Rw) (a : Nat) (i : Nat) (v : Nat) (hv : v < 4) (hg : cG t v = some a) (hi : i < (y 7 v).toNatClampNeg) : Met l yX0_number (ws_ yX0_number cX0_number 2 (some .int)) (rmF 0) (va_Pc [.ref a, .int (nI i)] (fun U => cK t U ∧ cX t r x U.heap ∧ cSh t y U.heap)) (kR (some (.int (y 8 (40 * v + i))))) 0 0 (fun _ => False) := by
  refine kk_start (by decide) (Nat.le_of_ble_eq_true rfl) ?_
  intro p e s m below meth c S hr hlk hin hB ls hl
  obtain ⟨hK, hP⟩ := hB
  have hx := S.1
  have hb := S.2.1
  have hown : s.vm.findClass RX0 = some m.cls := S.2.2.2.1
  have hts := S.2.2.2.2
  have hl : lv_has ls 2 [(0, .ref a), (1, .int ((nI i)))] := hl
  obtain ⟨hP, hQ⟩ := hP
  obtain ⟨hna, n_, hn40, hn7, har⟩ := hQ.row hv hg
  have hi : i < n_ := by rw [hn7, nI_clamp (by omega)] at hi; exact hi
  refine lv_aload_n hx hb dX0_number_0 rfl (lv_at hl 0 rfl) ?_
  rcases har with har | har | har
  · skip
    refine sh_inst8_376 S hK har dX0_number_1 ?_
    refine kb_eq0_n (tgt := 16) (a := 1) S rfl (by omega) dX0_number_4 (by decide) (fun c_4 => ?_) (fun c_4 => ?_)
    · exact absurd c_4 (by first | decide | omega)
    · skip
      refine lv_aload_n hx hb dX0_number_7 rfl (lv_at hl 0 rfl) ?_
      refine sh_cast8 S hK har dX0_number_8 ?_
      refine lv_iload_n hx hb dX0_number_11 rfl (lv_at hl 1 rfl) ?_
      refine sh_ld8 S hK har hn40 (i) hi rfl dX0_number_12 ?_
      refine lv_goto (tgt := 38) hx hb dX0_number_13 (by decide) ?_
      exact kk_iretR S hr hlk rfl rfl (rfl) dX0_number_38
  · skip
    refine sh_inst16_376 S hK har dX0_number_1 ?_
    refine kb_eq0_n (tgt := 16) (a := 0) S rfl (by omega) dX0_number_4 (by decide) (fun c_4 => ?_) (fun c_4 => ?_)
    · skip
      refine lv_aload_n hx hb dX0_number_16 rfl (lv_at hl 0 rfl) ?_
      refine sh_inst16_377 S hK har dX0_number_17 ?_
      refine kb_eq0_n (tgt := 32) (a := 1) S rfl (by omega) dX0_number_20 (by decide) (fun c_20 => ?_) (fun c_20 => ?_)
      · exact absurd c_20 (by first | decide | omega)
      · skip
        refine lv_aload_n hx hb dX0_number_23 rfl (lv_at hl 0 rfl) ?_
        refine sh_cast16 S hK har dX0_number_24 ?_
        refine lv_iload_n hx hb dX0_number_27 rfl (lv_at hl 1 rfl) ?_
        refine sh_ld16 S hK har hn40 (i) hi rfl dX0_number_28 ?_
        refine lv_goto (tgt := 38) hx hb dX0_number_29 (by decide) ?_
        exact kk_iretR S hr hlk rfl rfl (rfl) dX0_number_38
    · exact absurd c_4 (by first | decide | omega)
  · skip
    refine sh_inst32_376 S hK har dX0_number_1 ?_
    refine kb_eq0_n (tgt := 16) (a := 0) S rfl (by omega) dX0_number_4 (by decide) (fun c_4 => ?_) (fun c_4 => ?_)
    · skip
      refine lv_aload_n hx hb dX0_number_16 rfl (lv_at hl 0 rfl) ?_
      refine sh_inst32_377 S hK har dX0_number_17 ?_
      refine kb_eq0_n (tgt := 32) (a := 0) S rfl (by omega) dX0_number_20 (by decide) (fun c_20 => ?_) (fun c_20 => ?_)
      · skip
        refine lv_aload_n hx hb dX0_number_32 rfl (lv_at hl 0 rfl) ?_
        refine sh_cast32 S hK har dX0_number_33 ?_
        refine lv_iload_n hx hb dX0_number_36 rfl (lv_at hl 1 rfl) ?_
        refine sh_ld32 S hK har hn40 (i) hi rfl dX0_number_37 ?_
        exact kk_iretR S hr hlk rfl rfl (rfl) dX0_number_38
      · exact absurd c_20 (by first | decide | omega)
    · exact absurd c_4 (by first | decide | omega)
set_option maxHeartbeats 4000000 in
set_option maxRecDepth 100000 in
theorem k0_widthOf (l : Launch) (t : CT) (r : Rw) (x : Nat → Rw) (y : Nat → Rw) (a : Nat) (v : Nat) (hv : v < 4) (hg : cG t v = some a) : Met l yX0_widthOf (ws_ yX0_widthOf cX0_widthOf 1 (some .int)) (rmF 0) (va_Pc [.ref a] (fun U => cK t U ∧ cX t r x U.heap ∧ cSh t y U.heap)) (kR (some (.int (y 6 v)))) 0 0 (fun _ => False) := by
  refine kk_start (by decide) (Nat.le_of_ble_eq_true rfl) ?_
  intro p e s m below meth c S hr hlk hin hB ls hl
  obtain ⟨hK, hP⟩ := hB
  have hx := S.1
  have hb := S.2.1
  have hown : s.vm.findClass RX0 = some m.cls := S.2.2.2.1
  have hts := S.2.2.2.2
  have hl : lv_has ls 1 [(0, .ref a)] := hl
  obtain ⟨hP, hQ⟩ := hP
  obtain ⟨hna, n_, hn40, hn7, har⟩ := hQ.row hv hg
  refine lv_aload_n hx hb dX0_widthOf_0 rfl (lv_at hl 0 rfl) ?_
  rcases har with har | har | har
  · skip
    refine sh_inst8_376 S hK har dX0_widthOf_1 ?_
    refine kb_eq0_n (tgt := 12) (a := 1) S rfl (by omega) dX0_widthOf_4 (by decide) (fun c_4 => ?_) (fun c_4 => ?_)
    · exact absurd c_4 (by first | decide | omega)
    · skip
      refine lv_bipush (v := 8) hx hb dX0_widthOf_7 (by decide) ?_
      refine lv_goto (tgt := 26) hx hb dX0_widthOf_9 (by decide) ?_
      exact kk_iretR S hr hlk rfl rfl (har.1.symm) dX0_widthOf_26
  · skip
    refine sh_inst16_376 S hK har dX0_widthOf_1 ?_
    refine kb_eq0_n (tgt := 12) (a := 0) S rfl (by omega) dX0_widthOf_4 (by decide) (fun c_4 => ?_) (fun c_4 => ?_)
    · skip
      refine lv_aload_n hx hb dX0_widthOf_12 rfl (lv_at hl 0 rfl) ?_
      refine sh_inst16_377 S hK har dX0_widthOf_13 ?_
      refine kb_eq0_n (tgt := 24) (a := 1) S rfl (by omega) dX0_widthOf_16 (by decide) (fun c_16 => ?_) (fun c_16 => ?_)
      · exact absurd c_16 (by first | decide | omega)
      · skip
        refine lv_bipush (v := 16) hx hb dX0_widthOf_19 (by decide) ?_
        refine lv_goto (tgt := 26) hx hb dX0_widthOf_21 (by decide) ?_
        exact kk_iretR S hr hlk rfl rfl (har.1.symm) dX0_widthOf_26
    · exact absurd c_4 (by first | decide | omega)
  · skip
    refine sh_inst32_376 S hK har dX0_widthOf_1 ?_
    refine kb_eq0_n (tgt := 12) (a := 0) S rfl (by omega) dX0_widthOf_4 (by decide) (fun c_4 => ?_) (fun c_4 => ?_)
    · skip
      refine lv_aload_n hx hb dX0_widthOf_12 rfl (lv_at hl 0 rfl) ?_
      refine sh_inst32_377 S hK har dX0_widthOf_13 ?_
      refine kb_eq0_n (tgt := 24) (a := 0) S rfl (by omega) dX0_widthOf_16 (by decide) (fun c_16 => ?_) (fun c_16 => ?_)
      · skip
        refine lv_bipush (v := 32) hx hb dX0_widthOf_24 (by decide) ?_
        exact kk_iretR S hr hlk rfl rfl (har.1.symm) dX0_widthOf_26
      · exact absurd c_16 (by first | decide | omega)
    · exact absurd c_4 (by first | decide | omega)
section CC
variable {p : Program} {l : Launch} {e : Env} {R : Room} {s : State} {m : MethodId} {args : Array Value} {below : List Frame} {meth : Method} {c : Code} {H H0 : Heap} {locs : List Loc} {cells slots : Nat} {Q : State → Prop}
variable {cc : ByteArray} {pc nL : Nat} {ls : Array Slot} {rest : List Value} {t : CT} {r : Rw} {x : Nat → Rw}
theorem cc_length {y : Nat → Rw} (S : CallFix p m c cc nL s args lw_all RX0) (hK : cK t s) (hP : cX t r x H) (hQ : cSh t y H) (hR : kRm R 1 cells slots) (hsz : ls.size = nL) {a : Nat} (v : Nat) (hv : v < 4) (hg : cG t v = some a) (hrest : (rest.map fun v => v.category).sum ≤ 8) (hdg : decode cc pc = .ok (.invokestatic 290, 3)) (kk : W p l e R s m args below meth c H locs cells slots Q (F0 m (pc + 3) ls (.int (y 7 v) :: rest))) : W p l e R s m args below meth c H locs cells slots Q (F0 m pc ls (.ref a :: rest)) := by
  exact kk_Ri (W.runS (As := [.ref a]) (rest := rest) S (k0_length l t r x y a v hv hg) (va_cwS 1 S.2.2.2.2 (lw_S q964 q965 q101 q966) rfl rfl rfl (by decide +kernel) ⟨hR.1, by have := hR.2.1; show 8 + (1 + 11) + 38 * 0 ≤ R.locals; omega⟩) ⟨cS_blind, cS_pre hK hP hQ⟩ rfl rfl hsz rfl (lv_room hrest) hdg ⟨hR.2.2.1, hR.2.2.2⟩) kk
theorem cc_number {y : Nat → Rw} (S : CallFix p m c cc nL s args lw_all RX0) (hK : cK t s) (hP : cX t r x H) (hQ : cSh t y H) (hR : kRm R 1 cells slots) (hsz : ls.size = nL) {a : Nat} (i : Nat) (v : Nat) (hv : v < 4) (hg : cG t v = some a) (hi : i < (y 7 v).toNatClampNeg) {i1 : Int32} (e1 : i1 = nI i) (hrest : (rest.map fun v => v.category).sum ≤ 8) (hdg : decode cc pc = .ok (.invokestatic 294, 3)) (kk : W p l e R s m args below meth c H locs cells slots Q (F0 m (pc + 3) ls (.int (y 8 (40 * v + i)) :: rest))) : W p l e R s m args below meth c H locs cells slots Q (F0 m pc ls (.int i1 :: .ref a :: rest)) := by
  subst e1
  exact kk_Ri (W.runS (As := [.ref a, .int (nI i)]) (rest := rest) S (k0_number l t r x y a i v hv hg hi) (va_cwS 2 S.2.2.2.2 (lw_S q970 q971 q101 q972) rfl rfl rfl (by decide +kernel) ⟨hR.1, by have := hR.2.1; show 8 + (2 + 11) + 38 * 0 ≤ R.locals; omega⟩) ⟨cS_blind, cS_pre hK hP hQ⟩ rfl rfl hsz rfl (lv_room hrest) hdg ⟨hR.2.2.1, hR.2.2.2⟩) kk
theorem cc_widthOf {y : Nat → Rw} (S : CallFix p m c cc nL s args lw_all RX0) (hK : cK t s) (hP : cX t r x H) (hQ : cSh t y H) (hR : kRm R 1 cells slots) (hsz : ls.size = nL) {a : Nat} (v : Nat) (hv : v < 4) (hg : cG t v = some a) (hrest : (rest.map fun v => v.category).sum ≤ 8) (hdg : decode cc pc = .ok (.invokestatic 390, 3)) (kk : W p l e R s m args below meth c H locs cells slots Q (F0 m (pc + 3) ls (.int (y 6 v) :: rest))) : W p l e R s m args below meth c H locs cells slots Q (F0 m pc ls (.ref a :: rest)) := by
  exact kk_Ri (W.runS (As := [.ref a]) (rest := rest) S (k0_widthOf l t r x y a v hv hg) (va_cwS 1 S.2.2.2.2 (lw_S q1186 q1187 q101 q1188) rfl rfl rfl (by decide +kernel) ⟨hR.1, by have := hR.2.1; show 8 + (1 + 11) + 38 * 0 ≤ R.locals; omega⟩) ⟨cS_blind, cS_pre hK hP hQ⟩ rfl rfl hsz rfl (lv_room hrest) hdg ⟨hR.2.2.1, hR.2.2.2⟩) kk
end CC

set_option maxHeartbeats 4000000 in
set_option maxRecDepth 100000 in
theorem k_isIn (l : Launch) (v : Int32) (lo : Int32) (hi : Int32) : Met l yX13_isIn (ws_ yX13_isIn cX13_isIn 6 (some .boolean)) (rmF 0) (va_Pc [.long (v.toInt64), .long (lo.toInt64), .long (hi.toInt64)] (fun _ => True)) (kR (some (.int (b2i (lo ≤ v ∧ v ≤ hi))))) 0 0 (fun _ => False) := by
  refine kk_start (by decide) (Nat.le_of_ble_eq_true rfl) ?_
  intro p e s m below meth c S hr hlk hin hB ls hl
  have hx := S.1
  have hb := S.2.1
  have hown : s.vm.findClass RX13 = some m.cls := S.2.2.2.1
  have hts := S.2.2.2.2
  have hl : lv_has ls 6 [(0, .long (v.toInt64)), (2, .long (lo.toInt64)), (4, .long (hi.toInt64))] := hl
  refine lv_lload_n hx hb dX13_isIn_0 rfl (lv_at hl 0 rfl) ?_
  refine lv_lload_n hx hb dX13_isIn_1 rfl (lv_at hl 1 rfl) ?_
  refine W.lcmp hx hb dX13_isIn_2 ?_
  refine kb_lc32_lt (tgt := 17) S dX13_isIn_3 (by decide) (fun c_3 => ?_) (fun c_3 => ?_)
  · skip
    refine lv_iconst (v := 0) hx hb dX13_isIn_17 (by decide) ?_
    exact kk_zfR S hr hlk rfl rfl (by grind) dX13_isIn_18
  · skip
    refine lv_lload_n hx hb dX13_isIn_6 rfl (lv_at hl 0 rfl) ?_
    refine lv_lload hx hb dX13_isIn_7 (lv_at hl 2 rfl) ?_
    refine W.lcmp hx hb dX13_isIn_9 ?_
    refine kb_lc32_gt (tgt := 17) S dX13_isIn_10 (by decide) (fun c_10 => ?_) (fun c_10 => ?_)
    · skip
      refine lv_iconst (v := 0) hx hb dX13_isIn_17 (by decide) ?_
      exact kk_zfR S hr hlk rfl rfl (by grind) dX13_isIn_18
    · skip
      refine lv_iconst (v := 1) hx hb dX13_isIn_13 (by decide) ?_
      refine lv_goto (tgt := 18) hx hb dX13_isIn_14 (by decide) ?_
      exact kk_ztR S hr hlk rfl rfl (by grind) dX13_isIn_18
set_option maxHeartbeats 4000000 in
set_option maxRecDepth 100000 in
theorem k_isCellar (l : Launch) (v : Int32) : Met l yX13_isCellar (ws_ yX13_isCellar cX13_isCellar 1 (some .boolean)) (rmF 0) (va_Pc [.int v] (fun _ => True)) (kR (some (.int (b2i (0 ≤ v ∧ v < 6))))) 0 0 (fun _ => False) := by
  refine kk_start (by decide) (Nat.le_of_ble_eq_true rfl) ?_
  intro p e s m below meth c S hr hlk hin hB ls hl
  have hx := S.1
  have hb := S.2.1
  have hown : s.vm.findClass RX13 = some m.cls := S.2.2.2.1
  have hts := S.2.2.2.2
  have hl : lv_has ls 1 [(0, .int (v))] := hl
  refine lv_iload_n hx hb dX13_isCellar_0 rfl (lv_at hl 0 rfl) ?_
  refine lv_if_lt (tgt := 14) hx hb dX13_isCellar_1 (by decide) (fun c_1 => ?_) (fun c_1 => ?_)
  · skip
    refine lv_iconst (v := 0) hx hb dX13_isCellar_14 (by decide) ?_
    exact kk_zfR S hr hlk rfl rfl (by grind) dX13_isCellar_15
  · skip
    refine lv_iload_n hx hb dX13_isCellar_4 rfl (lv_at hl 0 rfl) ?_
    refine lv_bipush (v := 6) hx hb dX13_isCellar_5 (by decide) ?_
    refine lv_icmp_ge (tgt := 14) hx hb dX13_isCellar_7 (by decide) (fun c_7 => ?_) (fun c_7 => ?_)
    · skip
      refine lv_iconst (v := 0) hx hb dX13_isCellar_14 (by decide) ?_
      exact kk_zfR S hr hlk rfl rfl (by grind) dX13_isCellar_15
    · skip
      refine lv_iconst (v := 1) hx hb dX13_isCellar_10 (by decide) ?_
      refine lv_goto (tgt := 15) hx hb dX13_isCellar_11 (by decide) ?_
      exact kk_ztR S hr hlk rfl rfl (by grind) dX13_isCellar_15
set_option maxHeartbeats 4000000 in
set_option maxRecDepth 100000 in
theorem k_isCask (l : Launch) (t : MT) (r : Rw) (x : Nat → Rw) (v : Int32) : Met l yX13_isCask (ws_ yX13_isCask cX13_isCask 2 (some .boolean)) (rmF 0) (va_Pc [.ref (t.2.1 0), .int v] (fun U => mK t U ∧ mW t r x U.heap)) (kR (some (.int (b2i (0 ≤ v ∧ v < r 0))))) 0 0 (fun _ => False) := by
  refine kk_start (by decide) (Nat.le_of_ble_eq_true rfl) ?_
  intro p e s m below meth c S hr hlk hin hB ls hl
  obtain ⟨hK, hP⟩ := hB
  have hx := S.1
  have hb := S.2.1
  have hown : s.vm.findClass RX13 = some m.cls := S.2.2.2.1
  have hts := S.2.2.2.2
  have hl : lv_has ls 2 [(0, .ref (t.2.1 0)), (1, .int (v))] := hl
  refine lv_iload_n hx hb dX13_isCask_0 rfl (lv_at hl 1 rfl) ?_
  refine lv_if_lt (tgt := 18) hx hb dX13_isCask_1 (by decide) (fun c_1 => ?_) (fun c_1 => ?_)
  · skip
    refine lv_iconst (v := 0) hx hb dX13_isCask_18 (by decide) ?_
    exact kk_zfR S hr hlk rfl rfl (by grind) dX13_isCask_19
  · skip
    refine lv_iload_n hx hb dX13_isCask_4 rfl (lv_at hl 1 rfl) ?_
    refine lv_aload_n hx hb dX13_isCask_5 rfl (lv_at hl 0 rfl) ?_
    refine mg_s S hK hP dX13_isCask_6 ?_
    refine lv_iconst (v := 0) hx hb dX13_isCask_9 (by decide) ?_
    refine mk_lds S hK hP (0) (by omega) rfl dX13_isCask_10 ?_
    refine lv_icmp_ge (tgt := 18) hx hb dX13_isCask_11 (by decide) (fun c_11 => ?_) (fun c_11 => ?_)
    · skip
      refine lv_iconst (v := 0) hx hb dX13_isCask_18 (by decide) ?_
      exact kk_zfR S hr hlk rfl rfl (by grind) dX13_isCask_19
    · skip
      refine lv_iconst (v := 1) hx hb dX13_isCask_14 (by decide) ?_
      refine lv_goto (tgt := 19) hx hb dX13_isCask_15 (by decide) ?_
      exact kk_ztR S hr hlk rfl rfl (by grind) dX13_isCask_19
set_option maxHeartbeats 4000000 in
set_option maxRecDepth 100000 in
theorem k_at (l : Launch) (k : Nat) (i : Nat) : Met l yX13_at (ws_ yX13_at cX13_at 2 (some .int)) (rmF 0) (va_Pc [.int (nI k), .int (nI i)] (fun _ => True)) (kR (some (.int (nI (16 + 7 * k + i))))) 0 0 (fun _ => False) := by
  refine kk_start (by decide) (Nat.le_of_ble_eq_true rfl) ?_
  intro p e s m below meth c S hr hlk hin hB ls hl
  have hx := S.1
  have hb := S.2.1
  have hown : s.vm.findClass RX13 = some m.cls := S.2.2.2.1
  have hts := S.2.2.2.2
  have hl : lv_has ls 2 [(0, .int ((nI k))), (1, .int ((nI i)))] := hl
  refine lv_bipush (v := 16) hx hb dX13_at_0 (by decide) ?_
  refine lv_bipush (v := 7) hx hb dX13_at_2 (by decide) ?_
  refine lv_iload_n hx hb dX13_at_4 rfl (lv_at hl 0 rfl) ?_
  refine lv_imul hx hb dX13_at_5 ?_
  refine lv_iadd hx hb dX13_at_6 ?_
  refine lv_iload_n hx hb dX13_at_7 rfl (lv_at hl 1 rfl) ?_
  refine lv_iadd hx hb dX13_at_8 ?_
  exact kk_iretR S hr hlk rfl rfl (nn_add (nn_add rfl (nn_mul rfl rfl)) rfl) dX13_at_9
set_option maxHeartbeats 4000000 in
set_option maxRecDepth 100000 in
theorem k_its (l : Launch) (t : MT) (r : Rw) (x : Nat → Rw) (k : Nat) (i : Nat) (hk : k < 8) (hi : i < 7) : Met l yX13_its (ws_ yX13_its cX13_its 3 (some .int)) (rmF 0) (va_Pc [.ref (t.2.1 0), .int (nI k), .int (nI i)] (fun U => mK t U ∧ mW t r x U.heap)) (kR (some (.int (r (16 + 7 * k + i))))) 0 0 (fun _ => False) := by
  refine kk_start (by decide) (Nat.le_of_ble_eq_true rfl) ?_
  intro p e s m below meth c S hr hlk hin hB ls hl
  obtain ⟨hK, hP⟩ := hB
  have hx := S.1
  have hb := S.2.1
  have hown : s.vm.findClass RX13 = some m.cls := S.2.2.2.1
  have hts := S.2.2.2.2
  have hl : lv_has ls 3 [(0, .ref (t.2.1 0)), (1, .int ((nI k))), (2, .int ((nI i)))] := hl
  refine lv_aload_n hx hb dX13_its_0 rfl (lv_at hl 0 rfl) ?_
  refine mg_s S hK hP dX13_its_1 ?_
  refine lv_bipush (v := 16) hx hb dX13_its_4 (by decide) ?_
  refine lv_bipush (v := 7) hx hb dX13_its_6 (by decide) ?_
  refine lv_iload_n hx hb dX13_its_8 rfl (lv_at hl 1 rfl) ?_
  refine lv_imul hx hb dX13_its_9 ?_
  refine lv_iadd hx hb dX13_its_10 ?_
  refine lv_iload_n hx hb dX13_its_11 rfl (lv_at hl 2 rfl) ?_
  refine lv_iadd hx hb dX13_its_12 ?_
  refine mk_lds S hK hP (((16 + (7 * k)) + i)) (by omega) (nn_add (nn_add rfl (nn_mul rfl rfl)) rfl) dX13_its_13 ?_
  exact kk_iretR S hr hlk rfl rfl (rfl) dX13_its_14
set_option maxHeartbeats 4000000 in
set_option maxRecDepth 100000 in
theorem k_least (l : Launch) (a : Int32) (b : Int32) : Met l yX13_least (ws_ yX13_least cX13_least 2 (some .int)) (rmF 0) (va_Pc [.int a, .int b] (fun _ => True)) (kR (some (.int (imin a b)))) 0 0 (fun _ => False) := by
  refine kk_start (by decide) (Nat.le_of_ble_eq_true rfl) ?_
  intro p e s m below meth c S hr hlk hin hB ls hl
  have hx := S.1
  have hb := S.2.1
  have hown : s.vm.findClass RX13 = some m.cls := S.2.2.2.1
  have hts := S.2.2.2.2
  have hl : lv_has ls 2 [(0, .int (a)), (1, .int (b))] := hl
  refine lv_iload_n hx hb dX13_least_0 rfl (lv_at hl 0 rfl) ?_
  refine lv_iload_n hx hb dX13_least_1 rfl (lv_at hl 1 rfl) ?_
  refine lv_icmp_ge (tgt := 9) hx hb dX13_least_2 (by decide) (fun c_2 => ?_) (fun c_2 => ?_)
  · skip
    refine lv_iload_n hx hb dX13_least_9 rfl (lv_at hl 1 rfl) ?_
    exact kk_iretR S hr hlk rfl rfl (by unfold imin; grind) dX13_least_10
  · skip
    refine lv_iload_n hx hb dX13_least_5 rfl (lv_at hl 0 rfl) ?_
    refine lv_goto (tgt := 10) hx hb dX13_least_6 (by decide) ?_
    exact kk_iretR S hr hlk rfl rfl (by unfold imin; grind) dX13_least_10
set_option maxHeartbeats 4000000 in
set_option maxRecDepth 100000 in
theorem k_greatest (l : Launch) (a : Int32) (b : Int32) : Met l yX13_greatest (ws_ yX13_greatest cX13_greatest 2 (some .int)) (rmF 0) (va_Pc [.int a, .int b] (fun _ => True)) (kR (some (.int (imax a b)))) 0 0 (fun _ => False) := by
  refine kk_start (by decide) (Nat.le_of_ble_eq_true rfl) ?_
  intro p e s m below meth c S hr hlk hin hB ls hl
  have hx := S.1
  have hb := S.2.1
  have hown : s.vm.findClass RX13 = some m.cls := S.2.2.2.1
  have hts := S.2.2.2.2
  have hl : lv_has ls 2 [(0, .int (a)), (1, .int (b))] := hl
  refine lv_iload_n hx hb dX13_greatest_0 rfl (lv_at hl 0 rfl) ?_
  refine lv_iload_n hx hb dX13_greatest_1 rfl (lv_at hl 1 rfl) ?_
  refine lv_icmp_le (tgt := 9) hx hb dX13_greatest_2 (by decide) (fun c_2 => ?_) (fun c_2 => ?_)
  · skip
    refine lv_iload_n hx hb dX13_greatest_9 rfl (lv_at hl 1 rfl) ?_
    exact kk_iretR S hr hlk rfl rfl (by unfold imax; grind) dX13_greatest_10
  · skip
    refine lv_iload_n hx hb dX13_greatest_5 rfl (lv_at hl 0 rfl) ?_
    refine lv_goto (tgt := 10) hx hb dX13_greatest_6 (by decide) ?_
    exact kk_iretR S hr hlk rfl rfl (by unfold imax; grind) dX13_greatest_10
set_option maxHeartbeats 4000000 in
set_option maxRecDepth 100000 in
theorem k_becomes (l : Launch) (t : MT) (r : Rw) (x : Nat → Rw) (a : Nat) (v : Int32) (ha : a < 82) : Met l yX13_becomes (ws_ yX13_becomes cX13_becomes 4 (some .int)) (rmF 0) (va_Pc [.ref (t.2.1 0), .int (nI a), .int v] (fun U => mK t U ∧ mW t r x U.heap)) (kW (some (.int (r a))) (mW t (upd r a v) (x)) (mA t)) 0 0 (mA t) := by
  refine kk_start (by decide) (Nat.le_of_ble_eq_true rfl) ?_
  intro p e s m below meth c S hr hlk hin hB ls hl
  obtain ⟨hK, hP⟩ := hB
  have hx := S.1
  have hb := S.2.1
  have hown : s.vm.findClass RX13 = some m.cls := S.2.2.2.1
  have hts := S.2.2.2.2
  have hS : va_S (mA t) s.heap s.heap [] := va_S.rf
  have hl : lv_has ls 4 [(0, .ref (t.2.1 0)), (1, .int ((nI a))), (2, .int (v))] := hl
  refine lv_aload_n hx hb dX13_becomes_0 rfl (lv_at hl 0 rfl) ?_
  refine mg_s S hK hP dX13_becomes_1 ?_
  refine lv_iload_n hx hb dX13_becomes_4 rfl (lv_at hl 1 rfl) ?_
  refine mk_lds S hK hP (a) (by omega) rfl dX13_becomes_5 ?_
  refine lv_istore_n (lv' := [(3, .int (r a)), (0, .ref (t.2.1 0)), (1, .int ((nI a))), (2, .int (v))]) hx hb dX13_becomes_6 rfl hl (by decide) rfl (fun ls hl => ?_)
  refine lv_aload_n hx hb dX13_becomes_7 rfl (lv_at hl 1 rfl) ?_
  refine mg_s S hK hP dX13_becomes_8 ?_
  refine lv_iload_n hx hb dX13_becomes_11 rfl (lv_at hl 2 rfl) ?_
  refine lv_iload_n hx hb dX13_becomes_12 rfl (lv_at hl 3 rfl) ?_
  refine mk_sts S hK hP hS (a) (by omega) rfl dX13_becomes_13 (fun H locs hP hS => ?_)
  refine lv_iload_n hx hb dX13_becomes_14 rfl (lv_at hl 0 rfl) ?_
  exact kk_iretW S hr hlk hS (hP) (rfl) dX13_becomes_15
section MC
variable {p : Program} {l : Launch} {e : Env} {R : Room} {s : State} {m : MethodId} {args : Array Value} {below : List Frame} {meth : Method} {c : Code} {H H0 : Heap} {locs : List Loc} {cells slots : Nat} {Q : State → Prop}
variable {cc : ByteArray} {pc nL : Nat} {ls : Array Slot} {rest : List Value} {t : MT} {r : Rw} {x : Nat → Rw}
theorem c_isIn (S : CallFix p m c cc nL s args lw_all RX13) (hR : kRm R 1 cells slots) (hsz : ls.size = nL) {v : Int32} {lo : Int32} {hi : Int32} (hrest : (rest.map fun v => v.category).sum ≤ 8) (hdg : decode cc pc = .ok (.invokestatic 49, 3)) (kk : W p l e R s m args below meth c H locs cells slots Q (F0 m (pc + 3) ls (.int (b2i (lo ≤ v ∧ v ≤ hi)) :: rest))) : W p l e R s m args below meth c H locs cells slots Q (F0 m pc ls (.long (hi.toInt64) :: .long (lo.toInt64) :: .long (v.toInt64) :: rest)) := by
  exact kk_Ri (W.runS (As := [.long (v.toInt64), .long (lo.toInt64), .long (hi.toInt64)]) (rest := rest) S (k_isIn l v lo hi) (va_cwS 3 S.2.2.2.2 (lw_S q1298 q1299 q117 q1300) rfl rfl rfl (by decide +kernel) ⟨hR.1, by have := hR.2.1; show 8 + (6 + 11) + 38 * 0 ≤ R.locals; omega⟩) ⟨kk_blindT, fun U hU hW => ⟨rfl, trivial⟩⟩ rfl rfl hsz rfl (lv_room hrest) hdg ⟨hR.2.2.1, hR.2.2.2⟩) kk
theorem c_isCellar (S : CallFix p m c cc nL s args lw_all RX13) (hR : kRm R 1 cells slots) (hsz : ls.size = nL) {v : Int32} (hrest : (rest.map fun v => v.category).sum ≤ 8) (hdg : decode cc pc = .ok (.invokestatic 43, 3)) (kk : W p l e R s m args below meth c H locs cells slots Q (F0 m (pc + 3) ls (.int (b2i (0 ≤ v ∧ v < 6)) :: rest))) : W p l e R s m args below meth c H locs cells slots Q (F0 m pc ls (.int v :: rest)) := by
  exact kk_Ri (W.runS (As := [.int v]) (rest := rest) S (k_isCellar l v) (va_cwS 1 S.2.2.2.2 (lw_S q1294 q1295 q117 q1296) rfl rfl rfl (by decide +kernel) ⟨hR.1, by have := hR.2.1; show 8 + (1 + 11) + 38 * 0 ≤ R.locals; omega⟩) ⟨kk_blindT, fun U hU hW => ⟨rfl, trivial⟩⟩ rfl rfl hsz rfl (lv_room hrest) hdg ⟨hR.2.2.1, hR.2.2.2⟩) kk
theorem c_isCask (S : CallFix p m c cc nL s args lw_all RX13) (hK : mK t s) (hP : mW t r x H) (hR : kRm R 1 cells slots) (hsz : ls.size = nL) {v : Int32} (hrest : (rest.map fun v => v.category).sum ≤ 8) (hdg : decode cc pc = .ok (.invokevirtual 86, 3)) (kk : W p l e R s m args below meth c H locs cells slots Q (F0 m (pc + 3) ls (.int (b2i (0 ≤ v ∧ v < r 0)) :: rest))) : W p l e R s m args below meth c H locs cells slots Q (F0 m pc ls (.int v :: .ref (t.2.1 0) :: rest)) := by
  exact kk_Ri (W.runV (As := [.int v]) (rest := rest) S (k_isCask l t r x v) (cwV 1 S.2.2.2.2 (lw_V q1349 q1351 qs61 q117 q1352) rfl rfl rfl (by decide +kernel) ⟨hR.1, by have := hR.2.1; show 8 + (2 + 11) + 38 * 0 ≤ R.locals; omega⟩) ⟨m_blind, m_recv hK hP, m_pre hK hP⟩ rfl rfl hsz rfl (lv_room hrest) hdg ⟨hR.2.2.1, hR.2.2.2⟩) kk
theorem c_at (S : CallFix p m c cc nL s args lw_all RX13) (hR : kRm R 1 cells slots) (hsz : ls.size = nL) (k : Nat) (i : Nat) {i0 : Int32} (e0 : i0 = nI k) {i1 : Int32} (e1 : i1 = nI i) (hrest : (rest.map fun v => v.category).sum ≤ 8) (hdg : decode cc pc = .ok (.invokestatic 70, 3)) (kk : W p l e R s m args below meth c H locs cells slots Q (F0 m (pc + 3) ls (.int (nI (16 + 7 * k + i)) :: rest))) : W p l e R s m args below meth c H locs cells slots Q (F0 m pc ls (.int i1 :: .int i0 :: rest)) := by
  subst e0
  subst e1
  exact kk_Ri (W.runS (As := [.int (nI k), .int (nI i)]) (rest := rest) S (k_at l k i) (va_cwS 2 S.2.2.2.2 (lw_S q1342 q1343 q117 q1344) rfl rfl rfl (by decide +kernel) ⟨hR.1, by have := hR.2.1; show 8 + (2 + 11) + 38 * 0 ≤ R.locals; omega⟩) ⟨kk_blindT, fun U hU hW => ⟨rfl, trivial⟩⟩ rfl rfl hsz rfl (lv_room hrest) hdg ⟨hR.2.2.1, hR.2.2.2⟩) kk
theorem c_its (S : CallFix p m c cc nL s args lw_all RX13) (hK : mK t s) (hP : mW t r x H) (hR : kRm R 1 cells slots) (hsz : ls.size = nL) (k : Nat) (i : Nat) (hk : k < 8) (hi : i < 7) {i0 : Int32} (e0 : i0 = nI k) {i1 : Int32} (e1 : i1 = nI i) (hrest : (rest.map fun v => v.category).sum ≤ 8) (hdg : decode cc pc = .ok (.invokevirtual 57, 3)) (kk : W p l e R s m args below meth c H locs cells slots Q (F0 m (pc + 3) ls (.int (r (16 + 7 * k + i)) :: rest))) : W p l e R s m args below meth c H locs cells slots Q (F0 m pc ls (.int i1 :: .int i0 :: .ref (t.2.1 0) :: rest)) := by
  subst e0
  subst e1
  exact kk_Ri (W.runV (As := [.int (nI k), .int (nI i)]) (rest := rest) S (k_its l t r x k i hk hi) (cwV 2 S.2.2.2.2 (lw_V q1319 q1321 qs58 q117 q1322) rfl rfl rfl (by decide +kernel) ⟨hR.1, by have := hR.2.1; show 8 + (3 + 11) + 38 * 0 ≤ R.locals; omega⟩) ⟨m_blind, m_recv hK hP, m_pre hK hP⟩ rfl rfl hsz rfl (lv_room hrest) hdg ⟨hR.2.2.1, hR.2.2.2⟩) kk
theorem c_least (S : CallFix p m c cc nL s args lw_all RX13) (hR : kRm R 1 cells slots) (hsz : ls.size = nL) {a : Int32} {b : Int32} (hrest : (rest.map fun v => v.category).sum ≤ 8) (hdg : decode cc pc = .ok (.invokestatic 101, 3)) (kk : W p l e R s m args below meth c H locs cells slots Q (F0 m (pc + 3) ls (.int (imin a b) :: rest))) : W p l e R s m args below meth c H locs cells slots Q (F0 m pc ls (.int b :: .int a :: rest)) := by
  exact kk_Ri (W.runS (As := [.int a, .int b]) (rest := rest) S (k_least l a b) (va_cwS 2 S.2.2.2.2 (lw_S q1401 q1402 q117 q1403) rfl rfl rfl (by decide +kernel) ⟨hR.1, by have := hR.2.1; show 8 + (2 + 11) + 38 * 0 ≤ R.locals; omega⟩) ⟨kk_blindT, fun U hU hW => ⟨rfl, trivial⟩⟩ rfl rfl hsz rfl (lv_room hrest) hdg ⟨hR.2.2.1, hR.2.2.2⟩) kk
theorem c_greatest (S : CallFix p m c cc nL s args lw_all RX13) (hR : kRm R 1 cells slots) (hsz : ls.size = nL) {a : Int32} {b : Int32} (hrest : (rest.map fun v => v.category).sum ≤ 8) (hdg : decode cc pc = .ok (.invokestatic 80, 3)) (kk : W p l e R s m args below meth c H locs cells slots Q (F0 m (pc + 3) ls (.int (imax a b) :: rest))) : W p l e R s m args below meth c H locs cells slots Q (F0 m pc ls (.int b :: .int a :: rest)) := by
  exact kk_Ri (W.runS (As := [.int a, .int b]) (rest := rest) S (k_greatest l a b) (va_cwS 2 S.2.2.2.2 (lw_S q1357 q1358 q117 q1359) rfl rfl rfl (by decide +kernel) ⟨hR.1, by have := hR.2.1; show 8 + (2 + 11) + 38 * 0 ≤ R.locals; omega⟩) ⟨kk_blindT, fun U hU hW => ⟨rfl, trivial⟩⟩ rfl rfl hsz rfl (lv_room hrest) hdg ⟨hR.2.2.1, hR.2.2.2⟩) kk
theorem c_becomes (S : CallFix p m c cc nL s args lw_all RX13) (hK : mK t s) (hP : mW t r x H) (hS : va_S (mA t) H0 H locs) (hR : kRm R 1 cells slots) (hsz : ls.size = nL) (a : Nat) {v : Int32} (ha : a < 82) {i0 : Int32} (e0 : i0 = nI a) (hrest : (rest.map fun v => v.category).sum ≤ 8) (hdg : decode cc pc = .ok (.invokevirtual 53, 3)) (kk : ∀ (H1 : Heap) (locs1 : List Loc), mW t (upd r a v) (x) H1 → va_S (mA t) H0 H1 locs1 → W p l e R s m args below meth c H1 locs1 cells slots Q (F0 m (pc + 3) ls (.int (r a) :: rest))) : W p l e R s m args below meth c H locs cells slots Q (F0 m pc ls (.int v :: .int i0 :: .ref (t.2.1 0) :: rest)) := by
  subst e0
  exact kk_Wi (W.runV (As := [.int (nI a), .int v]) (rest := rest) S (k_becomes l t r x a v ha) (cwV 2 S.2.2.2.2 (lw_V q1301 q1303 qs55 q117 q1304) rfl rfl rfl (by decide +kernel) ⟨hR.1, by have := hR.2.1; show 8 + (4 + 11) + 38 * 0 ≤ R.locals; omega⟩) ⟨m_blind, m_recv hK hP, m_pre hK hP⟩ rfl rfl hsz rfl (lv_room hrest) hdg ⟨hR.2.2.1, hR.2.2.2⟩) hS (fun _ h => h) (fun _ h => h) (fun H1 locs1 hB _ _ hS => kk H1 locs1 hB hS)
end MC
set_option maxHeartbeats 4000000 in
set_option maxRecDepth 100000 in
theorem k_finds (l : Launch) (t : MT) (r : Rw) (x : Nat → Rw) (f : Int32) (j : Nat) (hf : (-1000001) - f + 1 = nI (j + 1)) (hj : j < 7) : Met l yX13_finds (ws_ yX13_finds cX13_finds 2 (some .int)) (rmF 0) (va_Pc [.ref (t.2.1 0), .int f] (fun U => mK t U ∧ mW t r x U.heap)) (kW (some (.int (f))) (mW t (r) (va_up x 4 (p_fnd (x 4) j))) (mA t)) 0 0 (mA t) := by
  refine kk_start (by decide) (Nat.le_of_ble_eq_true rfl) ?_
  intro p e s m below meth c S hr hlk hin hB ls hl
  obtain ⟨hK, hP⟩ := hB
  have hx := S.1
  have hb := S.2.1
  have hown : s.vm.findClass RX13 = some m.cls := S.2.2.2.1
  have hts := S.2.2.2.2
  have hS : va_S (mA t) s.heap s.heap [] := va_S.rf
  have hl : lv_has ls 2 [(0, .ref (t.2.1 0)), (1, .int (f))] := hl
  refine lv_aload_n hx hb dX13_finds_0 rfl (lv_at hl 0 rfl) ?_
  refine mg_findings S hK hP dX13_finds_1 ?_
  refine lv_iconst (v := 0) hx hb dX13_finds_4 (by decide) ?_
  refine lv_dup2_11 hx hb dX13_finds_5 rfl rfl ?_
  refine mk_ld4 S hK hP (0) (by omega) rfl dX13_finds_6 ?_
  refine lv_iconst (v := 1) hx hb dX13_finds_7 (by decide) ?_
  refine lv_iadd hx hb dX13_finds_8 ?_
  refine mk_st4 S hK hP hS (0) (by omega) rfl dX13_finds_9 (fun H locs hP hS => ?_)
  refine lv_aload_n hx hb dX13_finds_10 rfl (lv_at hl 0 rfl) ?_
  refine mg_findings S hK hP dX13_finds_11 ?_
  refine lv_ldc (v := (-1000001)) hx hb hown (hts _ q1305) dX13_finds_14 ?_
  refine lv_iload_n hx hb dX13_finds_16 rfl (lv_at hl 1 rfl) ?_
  refine lv_isub hx hb dX13_finds_17 ?_
  refine lv_iconst (v := 1) hx hb dX13_finds_18 (by decide) ?_
  refine lv_iadd hx hb dX13_finds_19 ?_
  refine lv_dup2_11 hx hb dX13_finds_20 rfl rfl ?_
  refine mk_ld4 S hK hP ((j + 1)) (by omega) hf dX13_finds_21 ?_
  refine lv_iconst (v := 1) hx hb dX13_finds_22 (by decide) ?_
  refine lv_iadd hx hb dX13_finds_23 ?_
  refine mk_st4 S hK hP hS ((j + 1)) (by omega) hf dX13_finds_24 (fun H locs hP hS => ?_)
  refine lv_iload_n hx hb dX13_finds_25 rfl (lv_at hl 1 rfl) ?_
  exact kk_iretW S hr hlk hS (by simpa only [bx_uu, va_us, p_fnd] using hP) (rfl) dX13_finds_26
section MC
variable {p : Program} {l : Launch} {e : Env} {R : Room} {s : State} {m : MethodId} {args : Array Value} {below : List Frame} {meth : Method} {c : Code} {H H0 : Heap} {locs : List Loc} {cells slots : Nat} {Q : State → Prop}
variable {cc : ByteArray} {pc nL : Nat} {ls : Array Slot} {rest : List Value} {t : MT} {r : Rw} {x : Nat → Rw}
theorem c_finds (S : CallFix p m c cc nL s args lw_all RX13) (hK : mK t s) (hP : mW t r x H) (hS : va_S (mA t) H0 H locs) (hR : kRm R 1 cells slots) (hsz : ls.size = nL) {f : Int32} (j : Nat) (hf : (-1000001) - f + 1 = nI (j + 1)) (hj : j < 7) (hrest : (rest.map fun v => v.category).sum ≤ 8) (hdg : decode cc pc = .ok (.invokevirtual 39, 3)) (kk : ∀ (H1 : Heap) (locs1 : List Loc), mW t (r) (va_up x 4 (p_fnd (x 4) j)) H1 → va_S (mA t) H0 H1 locs1 → W p l e R s m args below meth c H1 locs1 cells slots Q (F0 m (pc + 3) ls (.int (f) :: rest))) : W p l e R s m args below meth c H locs cells slots Q (F0 m pc ls (.int f :: .ref (t.2.1 0) :: rest)) := by
  exact kk_Wi (W.runV (As := [.int f]) (rest := rest) S (k_finds l t r x f j hf hj) (cwV 1 S.2.2.2.2 (lw_V q1306 q1308 qs56 q117 q1309) rfl rfl rfl (by decide +kernel) ⟨hR.1, by have := hR.2.1; show 8 + (2 + 11) + 38 * 0 ≤ R.locals; omega⟩) ⟨m_blind, m_recv hK hP, m_pre hK hP⟩ rfl rfl hsz rfl (lv_room hrest) hdg ⟨hR.2.2.1, hR.2.2.2⟩) hS (fun _ h => h) (fun _ h => h) (fun H1 locs1 hB _ _ hS => kk H1 locs1 hB hS)
end MC
set_option maxHeartbeats 4000000 in
set_option maxRecDepth 100000 in
theorem k_orNone (l : Launch) (t : MT) (r : Rw) (x : Nat → Rw) (v : Int32) : Met l yX13_orNone (ws_ yX13_orNone cX13_orNone 2 (some .int)) (rmF 1) (va_Pc [.ref (t.2.1 0), .int v] (fun U => mK t U ∧ mW t r x U.heap)) (kW (some (.int (if v < 0 then fnd 3 else v))) (mW t (r) (if v < 0 then va_up x 4 (p_fnd (x 4) 3) else x)) (mA t)) 0 0 (mA t) := by
  refine kk_start (by decide) (Nat.le_of_ble_eq_true rfl) ?_
  intro p e s m below meth c S hr hlk hin hB ls hl
  obtain ⟨hK, hP⟩ := hB
  have hx := S.1
  have hb := S.2.1
  have hown : s.vm.findClass RX13 = some m.cls := S.2.2.2.1
  have hts := S.2.2.2.2
  have hS : va_S (mA t) s.heap s.heap [] := va_S.rf
  have hl : lv_has ls 2 [(0, .ref (t.2.1 0)), (1, .int (v))] := hl
  refine lv_iload_n hx hb dX13_orNone_0 rfl (lv_at hl 1 rfl) ?_
  refine lv_if_ge (tgt := 13) hx hb dX13_orNone_1 (by decide) (fun c_1 => ?_) (fun c_1 => ?_)
  · skip
    refine lv_iload_n hx hb dX13_orNone_13 rfl (lv_at hl 1 rfl) ?_
    exact kk_iretW S hr hlk hS (by rw [if_neg (by grind)]; exact hP) (by rw [if_neg (by grind)]) dX13_orNone_14
  · skip
    refine lv_aload_n hx hb dX13_orNone_4 rfl (lv_at hl 0 rfl) ?_
    refine lv_ldc (v := (-1000004)) hx hb hown (hts _ q1462) dX13_orNone_5 ?_
    refine c_finds S hK hP hS (rm_ok (Nat.le_of_ble_eq_true rfl)) hl.1 (3) (by decide) (by decide) (Nat.le_of_ble_eq_true rfl) dX13_orNone_7 (fun H locs hP hS => ?_)
    refine lv_goto (tgt := 14) hx hb dX13_orNone_10 (by decide) ?_
    exact kk_iretW S hr hlk hS (by rw [if_pos (by grind)]; exact hP) (by rw [if_pos (by grind)]; decide) dX13_orNone_14
set_option maxHeartbeats 4000000 in
set_option maxRecDepth 100000 in
theorem k_many (l : Launch) (a0 : Nat) (h0 : a0 < 2 ^ 31) : Met l yX13_many (ws_ yX13_many cX13_many 3 (some .int)) (rmF 0) (va_Pc [.int (nI a0)] (fun _ => True)) (kR (some (.int (nI (p_many a0))))) 0 0 (fun _ => False) := by
  refine kk_start (by decide) (Nat.le_of_ble_eq_true rfl) ?_
  intro p e s m below meth c S hr hlk hin hB ls hl
  have hx := S.1
  have hb := S.2.1
  have hown : s.vm.findClass RX13 = some m.cls := S.2.2.2.1
  have hts := S.2.2.2.2
  have hl : lv_has ls 3 [(0, .int ((nI a0)))] := hl
  refine lv_iconst (v := 0) hx hb dX13_many_0 (by decide) ?_
  refine lv_istore_n (lv' := [(1, .int (0)), (0, .int ((nI a0)))]) hx hb dX13_many_1 rfl hl (by decide) rfl (fun ls hl => ?_)
  refine lv_iload_n hx hb dX13_many_2 rfl (lv_at hl 1 rfl) ?_
  refine lv_istore_n (lv' := [(2, .int ((nI a0))), (1, .int (0)), (0, .int ((nI a0)))]) hx hb dX13_many_3 rfl hl (by decide) rfl (fun ls hl => ?_)
  have lp_4 : ∀ (j : Nat) (q : Nat) (a : Nat) (ls : Array Slot), (a ≤ j) → (q + pcf j a = p_many a0) → (a < 2 ^ 31) → lv_has ls 3 [(0, .int ((nI a0))), (1, .int ((nI q))), (2, .int ((nI a)))] → W p l e (rmF 0) s m ([.int (nI a0)] : List Value).toArray below meth c s.heap [] 0 0 (MQ below (kR (some (.int (nI (p_many a0))))) ([.int (nI a0)] : List Value).toArray s 0 0 (fun _ => False)) (F0 m 4 ls []) := by
    intro j
    induction j with
    | zero =>
      intro q a ls hkj he hlt hl
      refine lv_iload_n hx hb dX13_many_4 rfl (lv_at hl 2 rfl) ?_
      refine kb_eq0_n (tgt := 20) (a := a) S rfl (by omega) dX13_many_5 (by decide) (fun c_5 => ?_) (fun c_5 => ?_)
      · skip
        refine lv_iload_n hx hb dX13_many_20 rfl (lv_at hl 1 rfl) ?_
        exact kk_iretR S hr hlk rfl rfl (by rw [c_5] at he; simp [pcf] at he; rw [he]) dX13_many_21
      · exact absurd c_5 (by omega)
    | succ j ih =>
      intro q a ls hkj he hlt hl
      have ih_4 := ih
      refine lv_iload_n hx hb dX13_many_4 rfl (lv_at hl 2 rfl) ?_
      refine kb_eq0_n (tgt := 20) (a := a) S rfl (by omega) dX13_many_5 (by decide) (fun c_5 => ?_) (fun c_5 => ?_)
      · skip
        refine lv_iload_n hx hb dX13_many_20 rfl (lv_at hl 1 rfl) ?_
        exact kk_iretR S hr hlk rfl rfl (by rw [c_5] at he; simp [pcf] at he; rw [he]) dX13_many_21
      · skip
        refine lv_iinc (v := (nI (q + 1))) (lv' := [(1, .int ((nI (q + 1)))), (0, .int ((nI a0))), (2, .int ((nI a)))]) hx hb dX13_many_8 hl (k := 1) rfl (nn_1 rfl) (by decide) rfl (fun ls hl => ?_)
        refine lv_iload_n hx hb dX13_many_11 rfl (lv_at hl 2 rfl) ?_
        refine lv_iload_n hx hb dX13_many_12 rfl (lv_at hl 2 rfl) ?_
        refine lv_iconst (v := 1) hx hb dX13_many_13 (by decide) ?_
        refine lv_isub hx hb dX13_many_14 ?_
        refine lv_iand hx hb dX13_many_15 ?_
        refine kb_nat (y := nI ((a &&& (a - 1)))) (nn_and rfl (nn_sub rfl rfl (by omega))) ?_
        refine lv_istore_n (lv' := [(2, .int ((nI (a &&& (a - 1))))), (1, .int ((nI (q + 1)))), (0, .int ((nI a0)))]) hx hb dX13_many_16 rfl hl (by decide) rfl (fun ls hl => ?_)
        refine lv_goto (tgt := 4) hx hb dX13_many_17 (by decide) ?_
        exact ih_4  ((q + 1)) ((a &&& (a - 1))) ls (by have := @Nat.and_le_right a (a - 1); omega) (by rw [pcf, if_neg c_5] at he; omega) (by have := @Nat.and_le_right a (a - 1); omega) (lv_sub hl [2, 1, 0] rfl)
  exact lp_4 a0 (0) (a0) ls (Nat.le_refl _) (by unfold p_many; omega) (h0) (lv_sub hl [2, 1, 0] rfl)
section MC
variable {p : Program} {l : Launch} {e : Env} {R : Room} {s : State} {m : MethodId} {args : Array Value} {below : List Frame} {meth : Method} {c : Code} {H H0 : Heap} {locs : List Loc} {cells slots : Nat} {Q : State → Prop}
variable {cc : ByteArray} {pc nL : Nat} {ls : Array Slot} {rest : List Value} {t : MT} {r : Rw} {x : Nat → Rw}
theorem c_orNone (S : CallFix p m c cc nL s args lw_all RX13) (hK : mK t s) (hP : mW t r x H) (hS : va_S (mA t) H0 H locs) (hR : kRm R 2 cells slots) (hsz : ls.size = nL) {v : Int32} (hrest : (rest.map fun v => v.category).sum ≤ 8) (hdg : decode cc pc = .ok (.invokevirtual 170, 3)) (kk : ∀ (H1 : Heap) (locs1 : List Loc), mW t (r) (if v < 0 then va_up x 4 (p_fnd (x 4) 3) else x) H1 → va_S (mA t) H0 H1 locs1 → W p l e R s m args below meth c H1 locs1 cells slots Q (F0 m (pc + 3) ls (.int (if v < 0 then fnd 3 else v) :: rest))) : W p l e R s m args below meth c H locs cells slots Q (F0 m pc ls (.int v :: .ref (t.2.1 0) :: rest)) := by
  exact kk_Wi (W.runV (As := [.int v]) (rest := rest) S (k_orNone l t r x v) (cwV 1 S.2.2.2.2 (lw_V q1498 q1500 qs79 q117 q1501) rfl rfl rfl (by decide +kernel) ⟨hR.1, by have := hR.2.1; show 8 + (2 + 11) + 38 * 1 ≤ R.locals; omega⟩) ⟨m_blind, m_recv hK hP, m_pre hK hP⟩ rfl rfl hsz rfl (lv_room hrest) hdg ⟨hR.2.2.1, hR.2.2.2⟩) hS (fun _ h => h) (fun _ h => h) (fun H1 locs1 hB _ _ hS => kk H1 locs1 hB hS)
theorem c_many (S : CallFix p m c cc nL s args lw_all RX13) (hR : kRm R 1 cells slots) (hsz : ls.size = nL) (a0 : Nat) (h0 : a0 < 2 ^ 31) {i0 : Int32} (e0 : i0 = nI a0) (hrest : (rest.map fun v => v.category).sum ≤ 8) (hdg : decode cc pc = .ok (.invokestatic 83, 3)) (kk : W p l e R s m args below meth c H locs cells slots Q (F0 m (pc + 3) ls (.int (nI (p_many a0)) :: rest))) : W p l e R s m args below meth c H locs cells slots Q (F0 m pc ls (.int i0 :: rest)) := by
  subst e0
  exact kk_Ri (W.runS (As := [.int (nI a0)]) (rest := rest) S (k_many l a0 h0) (va_cwS 1 S.2.2.2.2 (lw_S q1360 q1361 q117 q1362) rfl rfl rfl (by decide +kernel) ⟨hR.1, by have := hR.2.1; show 8 + (3 + 11) + 38 * 0 ≤ R.locals; omega⟩) ⟨kk_blindT, fun U hU hW => ⟨rfl, trivial⟩⟩ rfl rfl hsz rfl (lv_room hrest) hdg ⟨hR.2.2.1, hR.2.2.2⟩) kk
end MC
set_option maxHeartbeats 4000000 in
set_option maxRecDepth 100000 in
theorem k_there (l : Launch) (t : MT) (r : Rw) (x : Nat → Rw) (v : Int32) (b : Nat) (hV : pV b r) : Met l yX13_there (ws_ yX13_there cX13_there 4 (some .int)) (rmF 1) (va_Pc [.ref (t.2.1 0), .int v] (fun U => mK t U ∧ mW t r x U.heap)) (kR (some (.int (nI (p_there r v))))) 0 0 (fun _ => False) := by
  refine kk_start (by decide) (Nat.le_of_ble_eq_true rfl) ?_
  intro p e s m below meth c S hr hlk hin hB ls hl
  obtain ⟨hK, hP⟩ := hB
  have hx := S.1
  have hb := S.2.1
  have hown : s.vm.findClass RX13 = some m.cls := S.2.2.2.1
  have hts := S.2.2.2.2
  have hl : lv_has ls 4 [(0, .ref (t.2.1 0)), (1, .int (v))] := hl
  have hn := hV.n.1
  have hn8 := hV.n.2
  refine lv_iconst (v := 0) hx hb dX13_there_0 (by decide) ?_
  refine lv_istore_n (lv' := [(2, .int (0)), (0, .ref (t.2.1 0)), (1, .int (v))]) hx hb dX13_there_1 rfl hl (by decide) rfl (fun ls hl => ?_)
  refine lv_iconst (v := 0) hx hb dX13_there_2 (by decide) ?_
  refine lv_istore_n (lv' := [(3, .int (0)), (2, .int (0)), (0, .ref (t.2.1 0)), (1, .int (v))]) hx hb dX13_there_3 rfl hl (by decide) rfl (fun ls hl => ?_)
  have lp_4 : ∀ (j k : Nat) (a : Nat) (ls : Array Slot), k + j = pN r → (lp (fun k a => a ||| (if r (16 + 7 * k + 1) = v then 2 ^ k else 0)) j k a = p_there r v) → lv_has ls 4 [(0, .ref (t.2.1 0)), (1, .int (v)), (2, .int ((nI a))), (3, .int ((nI k)))] → W p l e (rmF 1) s m ([.ref (t.2.1 0), .int v] : List Value).toArray below meth c s.heap [] 0 0 (MQ below (kR (some (.int (nI (p_there r v))))) ([.ref (t.2.1 0), .int v] : List Value).toArray s 0 0 (fun _ => False)) (F0 m 4 ls []) := by
    intro j
    induction j with
    | zero =>
      intro k a ls hkj he hl
      refine lv_iload_n hx hb dX13_there_4 rfl (lv_at hl 3 rfl) ?_
      refine lv_aload_n hx hb dX13_there_5 rfl (lv_at hl 0 rfl) ?_
      refine mg_s S hK hP dX13_there_6 ?_
      refine lv_iconst (v := 0) hx hb dX13_there_9 (by decide) ?_
      refine mk_lds S hK hP (0) (by omega) rfl dX13_there_10 ?_
      refine kb_ge_n (tgt := 40) (a := k) (b := (pN r)) S rfl hn (by omega) (by omega) dX13_there_11 (by decide) (fun c_11 => ?_) (fun c_11 => ?_)
      · skip
        refine lv_iload_n hx hb dX13_there_40 rfl (lv_at hl 2 rfl) ?_
        exact kk_iretR S hr hlk rfl rfl (by rw [← he]; rfl) dX13_there_41
      · exact absurd c_11 (by omega)
    | succ j ih =>
      intro k a ls hkj he hl
      have ih_4 := ih
      refine lv_iload_n hx hb dX13_there_4 rfl (lv_at hl 3 rfl) ?_
      refine lv_aload_n hx hb dX13_there_5 rfl (lv_at hl 0 rfl) ?_
      refine mg_s S hK hP dX13_there_6 ?_
      refine lv_iconst (v := 0) hx hb dX13_there_9 (by decide) ?_
      refine mk_lds S hK hP (0) (by omega) rfl dX13_there_10 ?_
      refine kb_ge_n (tgt := 40) (a := k) (b := (pN r)) S rfl hn (by omega) (by omega) dX13_there_11 (by decide) (fun c_11 => ?_) (fun c_11 => ?_)
      · exact absurd c_11 (by omega)
      · skip
        refine lv_iload_n hx hb dX13_there_14 rfl (lv_at hl 2 rfl) ?_
        refine lv_aload_n hx hb dX13_there_15 rfl (lv_at hl 0 rfl) ?_
        refine lv_iload_n hx hb dX13_there_16 rfl (lv_at hl 3 rfl) ?_
        refine lv_iconst (v := 1) hx hb dX13_there_17 (by decide) ?_
        refine c_its S hK hP (rm_ok (Nat.le_of_ble_eq_true rfl)) hl.1 (k) (1) (by omega) (by omega) rfl rfl (Nat.le_of_ble_eq_true rfl) dX13_there_18 ?_
        refine lv_iload_n hx hb dX13_there_21 rfl (lv_at hl 1 rfl) ?_
        refine lv_icmp_ne (tgt := 31) hx hb dX13_there_22 (by decide) (fun c_22 => ?_) (fun c_22 => ?_)
        · skip
          refine lv_iconst (v := 0) hx hb dX13_there_31 (by decide) ?_
          refine lv_ior hx hb dX13_there_32 ?_
          refine kb_nat (y := nI ((a ||| 0))) (nn_or rfl rfl) ?_
          refine lv_istore_n (lv' := [(2, .int ((nI (a ||| 0)))), (0, .ref (t.2.1 0)), (1, .int (v)), (3, .int ((nI k)))]) hx hb dX13_there_33 rfl hl (by decide) rfl (fun ls hl => ?_)
          refine lv_iinc (v := (nI (k + 1))) (lv' := [(3, .int ((nI (k + 1)))), (2, .int ((nI (a ||| 0)))), (0, .ref (t.2.1 0)), (1, .int (v))]) hx hb dX13_there_34 hl (k := 3) rfl (nn_1 rfl) (by decide) rfl (fun ls hl => ?_)
          refine lv_goto (tgt := 4) hx hb dX13_there_37 (by decide) ?_
          exact ih_4 ((k + 1)) ((a ||| 0)) ls (by omega) (by have h := he; simp only [lp] at h; first | (rw [if_pos c_22] at h; exact h) | (rw [if_neg c_22] at h; exact h)) (lv_sub hl [2, 3, 1, 0] rfl)
        · skip
          refine lv_iconst (v := 1) hx hb dX13_there_25 (by decide) ?_
          refine lv_iload_n hx hb dX13_there_26 rfl (lv_at hl 3 rfl) ?_
          refine lv_ishl hx hb dX13_there_27 ?_
          refine lv_goto (tgt := 32) hx hb dX13_there_28 (by decide) ?_
          refine lv_ior hx hb dX13_there_32 ?_
          refine kb_nat (y := nI ((a ||| (2 ^ k)))) (nn_or rfl (nn_shl1 _ (by omega))) ?_
          refine lv_istore_n (lv' := [(2, .int ((nI (a ||| (2 ^ k))))), (0, .ref (t.2.1 0)), (1, .int (v)), (3, .int ((nI k)))]) hx hb dX13_there_33 rfl hl (by decide) rfl (fun ls hl => ?_)
          refine lv_iinc (v := (nI (k + 1))) (lv' := [(3, .int ((nI (k + 1)))), (2, .int ((nI (a ||| (2 ^ k))))), (0, .ref (t.2.1 0)), (1, .int (v))]) hx hb dX13_there_34 hl (k := 3) rfl (nn_1 rfl) (by decide) rfl (fun ls hl => ?_)
          refine lv_goto (tgt := 4) hx hb dX13_there_37 (by decide) ?_
          exact ih_4 ((k + 1)) ((a ||| (2 ^ k))) ls (by omega) (by have h := he; simp only [lp] at h; first | (rw [if_pos c_22] at h; exact h) | (rw [if_neg c_22] at h; exact h)) (lv_sub hl [2, 3, 1, 0] rfl)
  exact lp_4 (pN r) 0 (0) ls (by omega) (rfl) (lv_sub hl [2, 3, 1, 0] rfl)
set_option maxHeartbeats 4000000 in
set_option maxRecDepth 100000 in
theorem k_emptiest (l : Launch) (t : MT) (r : Rw) (x : Nat → Rw) (v : Int32) (b : Nat) (hV : pV b r) : Met l yX13_emptiest (ws_ yX13_emptiest cX13_emptiest 4 (some .int)) (rmF 1) (va_Pc [.ref (t.2.1 0), .int v] (fun U => mK t U ∧ mW t r x U.heap)) (kR (some (.int (oi (p_emp r v))))) 0 0 (fun _ => False) := by
  refine kk_start (by decide) (Nat.le_of_ble_eq_true rfl) ?_
  intro p e s m below meth c S hr hlk hin hB ls hl
  obtain ⟨hK, hP⟩ := hB
  have hx := S.1
  have hb := S.2.1
  have hown : s.vm.findClass RX13 = some m.cls := S.2.2.2.1
  have hts := S.2.2.2.2
  have hl : lv_has ls 4 [(0, .ref (t.2.1 0)), (1, .int (v))] := hl
  have hn := hV.n.1
  have hn8 := hV.n.2
  refine lv_iconst (v := (-1)) hx hb dX13_emptiest_0 (by decide) ?_
  refine lv_istore_n (lv' := [(2, .int ((-1))), (0, .ref (t.2.1 0)), (1, .int (v))]) hx hb dX13_emptiest_1 rfl hl (by decide) rfl (fun ls hl => ?_)
  refine lv_iconst (v := 0) hx hb dX13_emptiest_2 (by decide) ?_
  refine lv_istore_n (lv' := [(3, .int (0)), (2, .int ((-1))), (0, .ref (t.2.1 0)), (1, .int (v))]) hx hb dX13_emptiest_3 rfl hl (by decide) rfl (fun ls hl => ?_)
  have lp_4 : ∀ (j k : Nat) (bb : Option Nat) (ls : Array Slot), k + j = pN r → (lp (fun k b => if r (16 + 7 * k + 1) = v ∧ p_less r k b = true then some k else b) j k bb = p_emp r v) → (∀ i, bb = some i → i < 8) → lv_has ls 4 [(0, .ref (t.2.1 0)), (1, .int (v)), (2, .int ((oi bb))), (3, .int ((nI k)))] → W p l e (rmF 1) s m ([.ref (t.2.1 0), .int v] : List Value).toArray below meth c s.heap [] 0 0 (MQ below (kR (some (.int (oi (p_emp r v))))) ([.ref (t.2.1 0), .int v] : List Value).toArray s 0 0 (fun _ => False)) (F0 m 4 ls []) := by
    intro j
    induction j with
    | zero =>
      intro k bb ls hkj he hb8 hl
      refine lv_iload_n hx hb dX13_emptiest_4 rfl (lv_at hl 3 rfl) ?_
      refine lv_aload_n hx hb dX13_emptiest_5 rfl (lv_at hl 0 rfl) ?_
      refine mg_s S hK hP dX13_emptiest_6 ?_
      refine lv_iconst (v := 0) hx hb dX13_emptiest_9 (by decide) ?_
      refine mk_lds S hK hP (0) (by omega) rfl dX13_emptiest_10 ?_
      refine kb_ge_n (tgt := 55) (a := k) (b := (pN r)) S rfl hn (by omega) (by omega) dX13_emptiest_11 (by decide) (fun c_11 => ?_) (fun c_11 => ?_)
      · skip
        refine lv_iload_n hx hb dX13_emptiest_55 rfl (lv_at hl 2 rfl) ?_
        exact kk_iretR S hr hlk rfl rfl (by rw [← he]; rfl) dX13_emptiest_56
      · exact absurd c_11 (by omega)
    | succ j ih =>
      intro k bb ls hkj he hb8 hl
      have ih_4 := ih
      refine lv_iload_n hx hb dX13_emptiest_4 rfl (lv_at hl 3 rfl) ?_
      refine lv_aload_n hx hb dX13_emptiest_5 rfl (lv_at hl 0 rfl) ?_
      refine mg_s S hK hP dX13_emptiest_6 ?_
      refine lv_iconst (v := 0) hx hb dX13_emptiest_9 (by decide) ?_
      refine mk_lds S hK hP (0) (by omega) rfl dX13_emptiest_10 ?_
      refine kb_ge_n (tgt := 55) (a := k) (b := (pN r)) S rfl hn (by omega) (by omega) dX13_emptiest_11 (by decide) (fun c_11 => ?_) (fun c_11 => ?_)
      · exact absurd c_11 (by omega)
      · skip
        refine lv_aload_n hx hb dX13_emptiest_14 rfl (lv_at hl 0 rfl) ?_
        refine lv_iload_n hx hb dX13_emptiest_15 rfl (lv_at hl 3 rfl) ?_
        refine lv_iconst (v := 1) hx hb dX13_emptiest_16 (by decide) ?_
        refine c_its S hK hP (rm_ok (Nat.le_of_ble_eq_true rfl)) hl.1 (k) (1) (by omega) (by omega) rfl rfl (Nat.le_of_ble_eq_true rfl) dX13_emptiest_17 ?_
        refine lv_iload_n hx hb dX13_emptiest_20 rfl (lv_at hl 1 rfl) ?_
        refine lv_icmp_ne (tgt := 47) hx hb dX13_emptiest_21 (by decide) (fun c_21 => ?_) (fun c_21 => ?_)
        · skip
          refine lv_iload_n hx hb dX13_emptiest_47 rfl (lv_at hl 2 rfl) ?_
          refine lv_istore_n (lv' := [(2, .int ((oi bb))), (0, .ref (t.2.1 0)), (1, .int (v)), (3, .int ((nI k)))]) hx hb dX13_emptiest_48 rfl hl (by decide) rfl (fun ls hl => ?_)
          refine lv_iinc (v := (nI (k + 1))) (lv' := [(3, .int ((nI (k + 1)))), (2, .int ((oi bb))), (0, .ref (t.2.1 0)), (1, .int (v))]) hx hb dX13_emptiest_49 hl (k := 3) rfl (nn_1 rfl) (by decide) rfl (fun ls hl => ?_)
          refine lv_goto (tgt := 4) hx hb dX13_emptiest_52 (by decide) ?_
          exact ih_4 ((k + 1)) bb ls (by omega) (by have h := he; simp only [lp] at h; first | (rw [if_neg (fun z => c_21 z.1)] at h; exact h) | (rw [if_pos ⟨c_21, rfl⟩] at h; exact h) | (rw [if_pos ⟨c_21, decide_eq_true (Int32.not_le.mp c_40)⟩] at h; exact h) | (rw [if_neg (fun z => absurd (of_decide_eq_true z.2) (Int32.not_lt.mpr c_40))] at h; exact h)) (by first | exact hb8 | (intro i hi; cases hi; omega)) (lv_sub hl [2, 3, 1, 0] rfl)
        · skip
          refine lv_iload_n hx hb dX13_emptiest_24 rfl (lv_at hl 2 rfl) ?_
          refine kb_iflt_o (tgt := 43) S dX13_emptiest_25 (by decide) (fun c_25 => ?_) (fun c_25 => ?_) (fun i hi => Nat.lt_trans (hb8 i hi) (by decide))
          · skip
            subst c_25
            refine lv_iload_n hx hb dX13_emptiest_43 rfl (lv_at hl 3 rfl) ?_
            refine lv_goto (tgt := 48) hx hb dX13_emptiest_44 (by decide) ?_
            refine lv_istore_n (lv' := [(2, .int ((nI k))), (0, .ref (t.2.1 0)), (1, .int (v)), (3, .int ((nI k)))]) hx hb dX13_emptiest_48 rfl hl (by decide) rfl (fun ls hl => ?_)
            refine lv_iinc (v := (nI (k + 1))) (lv' := [(3, .int ((nI (k + 1)))), (2, .int ((nI k))), (0, .ref (t.2.1 0)), (1, .int (v))]) hx hb dX13_emptiest_49 hl (k := 3) rfl (nn_1 rfl) (by decide) rfl (fun ls hl => ?_)
            refine lv_goto (tgt := 4) hx hb dX13_emptiest_52 (by decide) ?_
            exact ih_4 ((k + 1)) (some (k)) ls (by omega) (by have h := he; simp only [lp] at h; first | (rw [if_neg (fun z => c_21 z.1)] at h; exact h) | (rw [if_pos ⟨c_21, rfl⟩] at h; exact h) | (rw [if_pos ⟨c_21, decide_eq_true (Int32.not_le.mp c_40)⟩] at h; exact h) | (rw [if_neg (fun z => absurd (of_decide_eq_true z.2) (Int32.not_lt.mpr c_40))] at h; exact h)) (by first | exact hb8 | (intro i hi; cases hi; omega)) (lv_sub hl [2, 3, 1, 0] rfl)
          · skip
            obtain ⟨bb_25, rfl⟩ := c_25
            have hbb_25 := hb8 _ rfl
            refine lv_aload_n hx hb dX13_emptiest_28 rfl (lv_at hl 0 rfl) ?_
            refine lv_iload_n hx hb dX13_emptiest_29 rfl (lv_at hl 3 rfl) ?_
            refine lv_iconst (v := 2) hx hb dX13_emptiest_30 (by decide) ?_
            refine c_its S hK hP (rm_ok (Nat.le_of_ble_eq_true rfl)) hl.1 (k) (2) (by omega) (by omega) rfl rfl (Nat.le_of_ble_eq_true rfl) dX13_emptiest_31 ?_
            refine lv_aload_n hx hb dX13_emptiest_34 rfl (lv_at hl 0 rfl) ?_
            refine lv_iload_n hx hb dX13_emptiest_35 rfl (lv_at hl 2 rfl) ?_
            refine lv_iconst (v := 2) hx hb dX13_emptiest_36 (by decide) ?_
            refine c_its S hK hP (rm_ok (Nat.le_of_ble_eq_true rfl)) hl.1 (bb_25) (2) (by omega) (by omega) (oi_some _) rfl (Nat.le_of_ble_eq_true rfl) dX13_emptiest_37 ?_
            refine lv_icmp_ge (tgt := 47) hx hb dX13_emptiest_40 (by decide) (fun c_40 => ?_) (fun c_40 => ?_)
            · skip
              refine lv_iload_n hx hb dX13_emptiest_47 rfl (lv_at hl 2 rfl) ?_
              refine kb_nat (y := nI (bb_25)) (oi_some _) ?_
              refine lv_istore_n (lv' := [(2, .int ((nI bb_25))), (0, .ref (t.2.1 0)), (1, .int (v)), (3, .int ((nI k)))]) hx hb dX13_emptiest_48 rfl hl (by decide) rfl (fun ls hl => ?_)
              refine lv_iinc (v := (nI (k + 1))) (lv' := [(3, .int ((nI (k + 1)))), (2, .int ((nI bb_25))), (0, .ref (t.2.1 0)), (1, .int (v))]) hx hb dX13_emptiest_49 hl (k := 3) rfl (nn_1 rfl) (by decide) rfl (fun ls hl => ?_)
              refine lv_goto (tgt := 4) hx hb dX13_emptiest_52 (by decide) ?_
              exact ih_4 ((k + 1)) (some (bb_25)) ls (by omega) (by have h := he; simp only [lp] at h; first | (rw [if_neg (fun z => c_21 z.1)] at h; exact h) | (rw [if_pos ⟨c_21, rfl⟩] at h; exact h) | (rw [if_pos ⟨c_21, decide_eq_true (Int32.not_le.mp c_40)⟩] at h; exact h) | (rw [if_neg (fun z => absurd (of_decide_eq_true z.2) (Int32.not_lt.mpr c_40))] at h; exact h)) (by first | exact hb8 | (intro i hi; cases hi; omega)) (lv_sub hl [2, 3, 1, 0] rfl)
            · skip
              refine lv_iload_n hx hb dX13_emptiest_43 rfl (lv_at hl 3 rfl) ?_
              refine lv_goto (tgt := 48) hx hb dX13_emptiest_44 (by decide) ?_
              refine lv_istore_n (lv' := [(2, .int ((nI k))), (0, .ref (t.2.1 0)), (1, .int (v)), (3, .int ((nI k)))]) hx hb dX13_emptiest_48 rfl hl (by decide) rfl (fun ls hl => ?_)
              refine lv_iinc (v := (nI (k + 1))) (lv' := [(3, .int ((nI (k + 1)))), (2, .int ((nI k))), (0, .ref (t.2.1 0)), (1, .int (v))]) hx hb dX13_emptiest_49 hl (k := 3) rfl (nn_1 rfl) (by decide) rfl (fun ls hl => ?_)
              refine lv_goto (tgt := 4) hx hb dX13_emptiest_52 (by decide) ?_
              exact ih_4 ((k + 1)) (some (k)) ls (by omega) (by have h := he; simp only [lp] at h; first | (rw [if_neg (fun z => c_21 z.1)] at h; exact h) | (rw [if_pos ⟨c_21, rfl⟩] at h; exact h) | (rw [if_pos ⟨c_21, decide_eq_true (Int32.not_le.mp c_40)⟩] at h; exact h) | (rw [if_neg (fun z => absurd (of_decide_eq_true z.2) (Int32.not_lt.mpr c_40))] at h; exact h)) (by first | exact hb8 | (intro i hi; cases hi; omega)) (lv_sub hl [2, 3, 1, 0] rfl)
  exact lp_4 (pN r) 0 none ls (by omega) (rfl) (fun _ h => by cases h) (lv_sub hl [2, 3, 1, 0] rfl)
section MC
variable {p : Program} {l : Launch} {e : Env} {R : Room} {s : State} {m : MethodId} {args : Array Value} {below : List Frame} {meth : Method} {c : Code} {H H0 : Heap} {locs : List Loc} {cells slots : Nat} {Q : State → Prop}
variable {cc : ByteArray} {pc nL : Nat} {ls : Array Slot} {rest : List Value} {t : MT} {r : Rw} {x : Nat → Rw}
theorem c_there (S : CallFix p m c cc nL s args lw_all RX13) (hK : mK t s) (hP : mW t r x H) (hR : kRm R 2 cells slots) (hsz : ls.size = nL) {v : Int32} (b : Nat) (hV : pV b r) (hrest : (rest.map fun v => v.category).sum ≤ 8) (hdg : decode cc pc = .ok (.invokevirtual 62, 3)) (kk : W p l e R s m args below meth c H locs cells slots Q (F0 m (pc + 3) ls (.int (nI (p_there r v)) :: rest))) : W p l e R s m args below meth c H locs cells slots Q (F0 m pc ls (.int v :: .ref (t.2.1 0) :: rest)) := by
  exact kk_Ri (W.runV (As := [.int v]) (rest := rest) S (k_there l t r x v b hV) (cwV 1 S.2.2.2.2 (lw_V q1315 q1317 qs57 q117 q1318) rfl rfl rfl (by decide +kernel) ⟨hR.1, by have := hR.2.1; show 8 + (4 + 11) + 38 * 1 ≤ R.locals; omega⟩) ⟨m_blind, m_recv hK hP, m_pre hK hP⟩ rfl rfl hsz rfl (lv_room hrest) hdg ⟨hR.2.2.1, hR.2.2.2⟩) kk
theorem c_emptiest (S : CallFix p m c cc nL s args lw_all RX13) (hK : mK t s) (hP : mW t r x H) (hR : kRm R 2 cells slots) (hsz : ls.size = nL) {v : Int32} (b : Nat) (hV : pV b r) (hrest : (rest.map fun v => v.category).sum ≤ 8) (hdg : decode cc pc = .ok (.invokevirtual 65, 3)) (kk : W p l e R s m args below meth c H locs cells slots Q (F0 m (pc + 3) ls (.int (oi (p_emp r v)) :: rest))) : W p l e R s m args below meth c H locs cells slots Q (F0 m pc ls (.int v :: .ref (t.2.1 0) :: rest)) := by
  exact kk_Ri (W.runV (As := [.int v]) (rest := rest) S (k_emptiest l t r x v b hV) (cwV 1 S.2.2.2.2 (lw_V q1323 q1325 qs59 q117 q1326) rfl rfl rfl (by decide +kernel) ⟨hR.1, by have := hR.2.1; show 8 + (4 + 11) + 38 * 1 ≤ R.locals; omega⟩) ⟨m_blind, m_recv hK hP, m_pre hK hP⟩ rfl rfl hsz rfl (lv_room hrest) hdg ⟨hR.2.2.1, hR.2.2.2⟩) kk
end MC
set_option maxHeartbeats 4000000 in
set_option maxRecDepth 100000 in
theorem k_frost (l : Launch) (t : MT) (r : Rw) (x : Nat → Rw) (a : Int32) (v : Int32) : Met l yX13_frost (ws_ yX13_frost cX13_frost 3 (some .int)) (rmF 1) (va_Pc [.ref (t.2.1 0), .int a, .int v] (fun U => mK t U ∧ mW t r x U.heap)) (kW (some (.int ((o_frost r a v).1))) (mW t ((o_frost r a v).2.1) (fx x (o_frost r a v).2.2)) (mA t)) 0 0 (mA t) := by
  refine kk_start (by decide) (Nat.le_of_ble_eq_true rfl) ?_
  intro p e s m below meth c S hr hlk hin hB ls hl
  obtain ⟨hK, hP⟩ := hB
  have hx := S.1
  have hb := S.2.1
  have hown : s.vm.findClass RX13 = some m.cls := S.2.2.2.1
  have hts := S.2.2.2.2
  have hS : va_S (mA t) s.heap s.heap [] := va_S.rf
  have hl : lv_has ls 3 [(0, .ref (t.2.1 0)), (1, .int (a)), (2, .int (v))] := hl
  refine lv_iload_n hx hb dX13_frost_0 rfl (lv_at hl 1 rfl) ?_
  refine c_isCellar S (rm_ok (Nat.le_of_ble_eq_true rfl)) hl.1 (Nat.le_of_ble_eq_true rfl) dX13_frost_1 ?_
  refine kb_ifeq (tgt := 30) S dX13_frost_4 (by decide) (fun c_4 => ?_) (fun c_4 => ?_)
  · skip
    refine lv_aload_n hx hb dX13_frost_30 rfl (lv_at hl 0 rfl) ?_
    refine lv_ldc (v := (-1000001)) hx hb hown (hts _ q1305) dX13_frost_31 ?_
    refine c_finds S hK hP hS (rm_ok (Nat.le_of_ble_eq_true rfl)) hl.1 (0) (by decide) (by decide) (Nat.le_of_ble_eq_true rfl) dX13_frost_33 (fun H locs hP hS => ?_)
    exact kk_iretW S hr hlk hS (by simp only [o_frost, c_4, reduceIte, and_self, oF, oK, fx]; exact hP) (by simp only [o_frost, c_4, reduceIte, and_self, oF, oK, fnd] <;> first | rfl | decide) dX13_frost_36
  · skip
    refine lv_iload_n hx hb dX13_frost_7 rfl (lv_at hl 2 rfl) ?_
    refine lv_i2l hx hb dX13_frost_8 rfl ?_
    refine lv_lconst (v := (0 : Int32).toInt64) hx hb dX13_frost_9 (by decide) ?_
    refine lv_ldc2 (v := ((9) : Int32).toInt64) hx hb hown (hts _ q1297) dX13_frost_10 ?_
    refine c_isIn S (rm_ok (Nat.le_of_ble_eq_true rfl)) hl.1 (Nat.le_of_ble_eq_true rfl) dX13_frost_13 ?_
    refine kb_ifeq (tgt := 30) S dX13_frost_16 (by decide) (fun c_16 => ?_) (fun c_16 => ?_)
    · skip
      refine lv_aload_n hx hb dX13_frost_30 rfl (lv_at hl 0 rfl) ?_
      refine lv_ldc (v := (-1000001)) hx hb hown (hts _ q1305) dX13_frost_31 ?_
      refine c_finds S hK hP hS (rm_ok (Nat.le_of_ble_eq_true rfl)) hl.1 (0) (by decide) (by decide) (Nat.le_of_ble_eq_true rfl) dX13_frost_33 (fun H locs hP hS => ?_)
      exact kk_iretW S hr hlk hS (by simp only [o_frost, c_4, c_16, reduceIte, and_self, oF, oK, fx]; exact hP) (by simp only [o_frost, c_4, c_16, reduceIte, and_self, oF, oK, fnd] <;> first | rfl | decide) dX13_frost_36
    · skip
      obtain ⟨a_, ha_, rfl⟩ := nat_of_lt (n := 6) (rfl) (by omega) c_4
      have hcl_a_ := nI_clamp (n := a_) (by omega)
      refine lv_aload_n hx hb dX13_frost_19 rfl (lv_at hl 0 rfl) ?_
      refine lv_iconst (v := 4) hx hb dX13_frost_20 (by decide) ?_
      refine lv_iload_n hx hb dX13_frost_21 rfl (lv_at hl 1 rfl) ?_
      refine lv_iadd hx hb dX13_frost_22 ?_
      refine lv_iload_n hx hb dX13_frost_23 rfl (lv_at hl 2 rfl) ?_
      refine c_becomes S hK hP hS (rm_ok (Nat.le_of_ble_eq_true rfl)) hl.1 ((4 + a_)) (by omega) (nn_add rfl rfl) (Nat.le_of_ble_eq_true rfl) dX13_frost_24 (fun H locs hP hS => ?_)
      refine lv_goto (tgt := 36) hx hb dX13_frost_27 (by decide) ?_
      exact kk_iretW S hr hlk hS (by simp only [o_frost, c_4, c_16, hcl_a_, reduceIte, and_self, oF, oK, fx]; exact hP) (by simp only [o_frost, c_4, c_16, hcl_a_, reduceIte, and_self, oF, oK, fnd] <;> first | rfl | decide) dX13_frost_36
set_option maxHeartbeats 4000000 in
set_option maxRecDepth 100000 in
theorem k_storm (l : Launch) (t : MT) (r : Rw) (x : Nat → Rw) (a : Int32) (v : Int32) : Met l yX13_storm (ws_ yX13_storm cX13_storm 3 (some .int)) (rmF 1) (va_Pc [.ref (t.2.1 0), .int a, .int v] (fun U => mK t U ∧ mW t r x U.heap)) (kW (some (.int ((o_storm r a v).1))) (mW t ((o_storm r a v).2.1) (fx x (o_storm r a v).2.2)) (mA t)) 0 0 (mA t) := by
  refine kk_start (by decide) (Nat.le_of_ble_eq_true rfl) ?_
  intro p e s m below meth c S hr hlk hin hB ls hl
  obtain ⟨hK, hP⟩ := hB
  have hx := S.1
  have hb := S.2.1
  have hown : s.vm.findClass RX13 = some m.cls := S.2.2.2.1
  have hts := S.2.2.2.2
  have hS : va_S (mA t) s.heap s.heap [] := va_S.rf
  have hl : lv_has ls 3 [(0, .ref (t.2.1 0)), (1, .int (a)), (2, .int (v))] := hl
  refine lv_iload_n hx hb dX13_storm_0 rfl (lv_at hl 1 rfl) ?_
  refine c_isCellar S (rm_ok (Nat.le_of_ble_eq_true rfl)) hl.1 (Nat.le_of_ble_eq_true rfl) dX13_storm_1 ?_
  refine kb_ifeq (tgt := 31) S dX13_storm_4 (by decide) (fun c_4 => ?_) (fun c_4 => ?_)
  · skip
    refine lv_aload_n hx hb dX13_storm_31 rfl (lv_at hl 0 rfl) ?_
    refine lv_ldc (v := (-1000001)) hx hb hown (hts _ q1305) dX13_storm_32 ?_
    refine c_finds S hK hP hS (rm_ok (Nat.le_of_ble_eq_true rfl)) hl.1 (0) (by decide) (by decide) (Nat.le_of_ble_eq_true rfl) dX13_storm_34 (fun H locs hP hS => ?_)
    exact kk_iretW S hr hlk hS (by simp only [o_storm, c_4, reduceIte, and_self, oF, oK, fx]; exact hP) (by simp only [o_storm, c_4, reduceIte, and_self, oF, oK, fnd] <;> first | rfl | decide) dX13_storm_37
  · skip
    refine lv_iload_n hx hb dX13_storm_7 rfl (lv_at hl 2 rfl) ?_
    refine lv_i2l hx hb dX13_storm_8 rfl ?_
    refine lv_lconst (v := (0 : Int32).toInt64) hx hb dX13_storm_9 (by decide) ?_
    refine lv_ldc2 (v := ((99) : Int32).toInt64) hx hb hown (hts _ q1331) dX13_storm_10 ?_
    refine c_isIn S (rm_ok (Nat.le_of_ble_eq_true rfl)) hl.1 (Nat.le_of_ble_eq_true rfl) dX13_storm_13 ?_
    refine kb_ifeq (tgt := 31) S dX13_storm_16 (by decide) (fun c_16 => ?_) (fun c_16 => ?_)
    · skip
      refine lv_aload_n hx hb dX13_storm_31 rfl (lv_at hl 0 rfl) ?_
      refine lv_ldc (v := (-1000001)) hx hb hown (hts _ q1305) dX13_storm_32 ?_
      refine c_finds S hK hP hS (rm_ok (Nat.le_of_ble_eq_true rfl)) hl.1 (0) (by decide) (by decide) (Nat.le_of_ble_eq_true rfl) dX13_storm_34 (fun H locs hP hS => ?_)
      exact kk_iretW S hr hlk hS (by simp only [o_storm, c_4, c_16, reduceIte, and_self, oF, oK, fx]; exact hP) (by simp only [o_storm, c_4, c_16, reduceIte, and_self, oF, oK, fnd] <;> first | rfl | decide) dX13_storm_37
    · skip
      obtain ⟨a_, ha_, rfl⟩ := nat_of_lt (n := 6) (rfl) (by omega) c_4
      have hcl_a_ := nI_clamp (n := a_) (by omega)
      refine lv_aload_n hx hb dX13_storm_19 rfl (lv_at hl 0 rfl) ?_
      refine lv_bipush (v := 10) hx hb dX13_storm_20 (by decide) ?_
      refine lv_iload_n hx hb dX13_storm_22 rfl (lv_at hl 1 rfl) ?_
      refine lv_iadd hx hb dX13_storm_23 ?_
      refine lv_iload_n hx hb dX13_storm_24 rfl (lv_at hl 2 rfl) ?_
      refine c_becomes S hK hP hS (rm_ok (Nat.le_of_ble_eq_true rfl)) hl.1 ((10 + a_)) (by omega) (nn_add rfl rfl) (Nat.le_of_ble_eq_true rfl) dX13_storm_25 (fun H locs hP hS => ?_)
      refine lv_goto (tgt := 37) hx hb dX13_storm_28 (by decide) ?_
      exact kk_iretW S hr hlk hS (by simp only [o_storm, c_4, c_16, hcl_a_, reduceIte, and_self, oF, oK, fx]; exact hP) (by simp only [o_storm, c_4, c_16, hcl_a_, reduceIte, and_self, oF, oK, fnd] <;> first | rfl | decide) dX13_storm_37
section MC
variable {p : Program} {l : Launch} {e : Env} {R : Room} {s : State} {m : MethodId} {args : Array Value} {below : List Frame} {meth : Method} {c : Code} {H H0 : Heap} {locs : List Loc} {cells slots : Nat} {Q : State → Prop}
variable {cc : ByteArray} {pc nL : Nat} {ls : Array Slot} {rest : List Value} {t : MT} {r : Rw} {x : Nat → Rw}


end MC

set_option maxHeartbeats 4000000 in
set_option maxRecDepth 100000 in
theorem k_has3 (l : Launch) (t : MT) (r : Rw) (x : Nat → Rw) (i : Nat) (u : Int32) (v : Int32) (w : Int32) (tp : Nat) (hpi : PI tp x) (hi : i < 10) : Met l yX13_has3 (ws_ yX13_has3 cX13_has3 5 (some .boolean)) (rmF 1) (va_Pc [.ref (t.2.1 0), .int (nI i), .int u, .int v, .int w] (fun U => mK t U ∧ mW t r x U.heap)) (kR (some (.int (b2i (m_h3 tp x i u v w))))) 0 0 (fun _ => False) := by
  refine kk_start (by decide) (Nat.le_of_ble_eq_true rfl) ?_
  intro p e s m below meth c S hr hlk hin hB ls hl
  obtain ⟨hK, hP⟩ := hB
  have hx := S.1
  have hb := S.2.1
  have hown : s.vm.findClass RX13 = some m.cls := S.2.2.2.1
  have hts := S.2.2.2.2
  have hl : lv_has ls 5 [(0, .ref (t.2.1 0)), (1, .int ((nI i))), (2, .int (u)), (3, .int (v)), (4, .int (w))] := hl
  have htp := hpi.1
  have h120 := hpi.2.1
  have hfr := hpi.fr.2
  have hto := hpi.to.2
  refine lv_aload_n hx hb dX13_has3_0 rfl (lv_at hl 0 rfl) ?_
  refine lv_aload_n hx hb dX13_has3_1 rfl (lv_at hl 0 rfl) ?_
  refine mg_from S hK hP dX13_has3_2 ?_
  refine lv_iload_n hx hb dX13_has3_5 rfl (lv_at hl 1 rfl) ?_
  refine lv_iadd hx hb dX13_has3_6 ?_
  refine c_byteAt S hK hP (rm_ok (Nat.le_of_ble_eq_true rfl)) hl.1 (((frN x) + i)) (tp) htp (by omega) (by omega) (nn_add hpi.fr.1 rfl) (Nat.le_of_ble_eq_true rfl) dX13_has3_7 ?_
  refine lv_iload_n hx hb dX13_has3_10 rfl (lv_at hl 2 rfl) ?_
  refine lv_icmp_ne (tgt := 51) hx hb dX13_has3_11 (by decide) (fun c_11 => ?_) (fun c_11 => ?_)
  · skip
    refine lv_iconst (v := 0) hx hb dX13_has3_51 (by decide) ?_
    exact kk_zfR S hr hlk rfl rfl (fun z => c_11 z.1) dX13_has3_52
  · skip
    refine lv_aload_n hx hb dX13_has3_14 rfl (lv_at hl 0 rfl) ?_
    refine lv_aload_n hx hb dX13_has3_15 rfl (lv_at hl 0 rfl) ?_
    refine mg_from S hK hP dX13_has3_16 ?_
    refine lv_iload_n hx hb dX13_has3_19 rfl (lv_at hl 1 rfl) ?_
    refine lv_iadd hx hb dX13_has3_20 ?_
    refine lv_iconst (v := 1) hx hb dX13_has3_21 (by decide) ?_
    refine lv_iadd hx hb dX13_has3_22 ?_
    refine c_byteAt S hK hP (rm_ok (Nat.le_of_ble_eq_true rfl)) hl.1 ((((frN x) + i) + 1)) (tp) htp (by omega) (by omega) (nn_add (nn_add hpi.fr.1 rfl) rfl) (Nat.le_of_ble_eq_true rfl) dX13_has3_23 ?_
    refine lv_iload_n hx hb dX13_has3_26 rfl (lv_at hl 3 rfl) ?_
    refine lv_icmp_ne (tgt := 51) hx hb dX13_has3_27 (by decide) (fun c_27 => ?_) (fun c_27 => ?_)
    · skip
      refine lv_iconst (v := 0) hx hb dX13_has3_51 (by decide) ?_
      exact kk_zfR S hr hlk rfl rfl (fun z => c_27 z.2.1) dX13_has3_52
    · skip
      refine lv_aload_n hx hb dX13_has3_30 rfl (lv_at hl 0 rfl) ?_
      refine lv_aload_n hx hb dX13_has3_31 rfl (lv_at hl 0 rfl) ?_
      refine mg_from S hK hP dX13_has3_32 ?_
      refine lv_iload_n hx hb dX13_has3_35 rfl (lv_at hl 1 rfl) ?_
      refine lv_iadd hx hb dX13_has3_36 ?_
      refine lv_iconst (v := 2) hx hb dX13_has3_37 (by decide) ?_
      refine lv_iadd hx hb dX13_has3_38 ?_
      refine c_byteAt S hK hP (rm_ok (Nat.le_of_ble_eq_true rfl)) hl.1 ((((frN x) + i) + 2)) (tp) htp (by omega) (by omega) (nn_add (nn_add hpi.fr.1 rfl) rfl) (Nat.le_of_ble_eq_true rfl) dX13_has3_39 ?_
      refine lv_iload hx hb dX13_has3_42 (lv_at hl 4 rfl) ?_
      refine lv_icmp_ne (tgt := 51) hx hb dX13_has3_44 (by decide) (fun c_44 => ?_) (fun c_44 => ?_)
      · skip
        refine lv_iconst (v := 0) hx hb dX13_has3_51 (by decide) ?_
        exact kk_zfR S hr hlk rfl rfl (fun z => c_44 z.2.2) dX13_has3_52
      · skip
        refine lv_iconst (v := 1) hx hb dX13_has3_47 (by decide) ?_
        refine lv_goto (tgt := 52) hx hb dX13_has3_48 (by decide) ?_
        exact kk_ztR S hr hlk rfl rfl (⟨c_11, c_27, c_44⟩) dX13_has3_52
set_option maxHeartbeats 4000000 in
set_option maxRecDepth 100000 in
theorem k_isWord (l : Launch) (t : MT) (r : Rw) (x : Nat → Rw) (v : Int32) : Met l yX13_isWord (ws_ yX13_isWord cX13_isWord 2 (some .boolean)) (rmF 0) (va_Pc [.ref (t.2.1 0), .int v] (fun U => mK t U ∧ mW t r x U.heap)) (kR (some (.int (b2i (m_wd x v))))) 0 0 (fun _ => False) := by
  refine kk_start (by decide) (Nat.le_of_ble_eq_true rfl) ?_
  intro p e s m below meth c S hr hlk hin hB ls hl
  obtain ⟨hK, hP⟩ := hB
  have hx := S.1
  have hb := S.2.1
  have hown : s.vm.findClass RX13 = some m.cls := S.2.2.2.1
  have hts := S.2.2.2.2
  have hl : lv_has ls 2 [(0, .ref (t.2.1 0)), (1, .int (v))] := hl
  refine lv_aload_n hx hb dX13_isWord_0 rfl (lv_at hl 0 rfl) ?_
  refine mg_token S hK hP dX13_isWord_1 ?_
  refine lv_iconst (v := 1) hx hb dX13_isWord_4 (by decide) ?_
  refine lv_icmp_ne (tgt := 25) hx hb dX13_isWord_5 (by decide) (fun c_5 => ?_) (fun c_5 => ?_)
  · skip
    refine lv_iconst (v := 0) hx hb dX13_isWord_25 (by decide) ?_
    exact kk_zfR S hr hlk rfl rfl (fun z => c_5 z.1) dX13_isWord_26
  · skip
    refine lv_aload_n hx hb dX13_isWord_8 rfl (lv_at hl 0 rfl) ?_
    refine mg_to S hK hP dX13_isWord_9 ?_
    refine lv_aload_n hx hb dX13_isWord_12 rfl (lv_at hl 0 rfl) ?_
    refine mg_from S hK hP dX13_isWord_13 ?_
    refine lv_isub hx hb dX13_isWord_16 ?_
    refine lv_iload_n hx hb dX13_isWord_17 rfl (lv_at hl 1 rfl) ?_
    refine lv_icmp_ne (tgt := 25) hx hb dX13_isWord_18 (by decide) (fun c_18 => ?_) (fun c_18 => ?_)
    · skip
      refine lv_iconst (v := 0) hx hb dX13_isWord_25 (by decide) ?_
      exact kk_zfR S hr hlk rfl rfl (fun z => c_18 z.2) dX13_isWord_26
    · skip
      refine lv_iconst (v := 1) hx hb dX13_isWord_21 (by decide) ?_
      refine lv_goto (tgt := 26) hx hb dX13_isWord_22 (by decide) ?_
      exact kk_ztR S hr hlk rfl rfl (⟨c_5, c_18⟩) dX13_isWord_26
set_option maxHeartbeats 4000000 in
set_option maxRecDepth 100000 in
theorem k_fails (l : Launch) (t : MT) (r : Rw) (x : Nat → Rw) : Met l yX13_fails (ws_ yX13_fails cX13_fails 1 (some .boolean)) (rmF 0) (va_Pc [.ref (t.2.1 0)] (fun U => mK t U ∧ mW t r x U.heap)) (kW (some (.int (b2i (False)))) (mW t (r) (failx x)) (mA t)) 0 0 (mA t) := by
  refine kk_start (by decide) (Nat.le_of_ble_eq_true rfl) ?_
  intro p e s m below meth c S hr hlk hin hB ls hl
  obtain ⟨hK, hP⟩ := hB
  have hx := S.1
  have hb := S.2.1
  have hown : s.vm.findClass RX13 = some m.cls := S.2.2.2.1
  have hts := S.2.2.2.2
  have hS : va_S (mA t) s.heap s.heap [] := va_S.rf
  have hl : lv_has ls 1 [(0, .ref (t.2.1 0))] := hl
  refine lv_aload_n hx hb dX13_fails_0 rfl (lv_at hl 0 rfl) ?_
  refine lv_aload_n hx hb dX13_fails_1 rfl (lv_at hl 0 rfl) ?_
  refine mg_from S hK hP dX13_fails_2 ?_
  refine mp_faultAt S hK hP hS dX13_fails_5 (fun H locs hP hS => ?_)
  refine lv_iconst (v := 0) hx hb dX13_fails_8 (by decide) ?_
  exact kk_zfW S hr hlk hS (hP) (fun z => z) dX13_fails_9
section MC
variable {p : Program} {l : Launch} {e : Env} {R : Room} {s : State} {m : MethodId} {args : Array Value} {below : List Frame} {meth : Method} {c : Code} {H H0 : Heap} {locs : List Loc} {cells slots : Nat} {Q : State → Prop}
variable {cc : ByteArray} {pc nL : Nat} {ls : Array Slot} {rest : List Value} {t : MT} {r : Rw} {x : Nat → Rw}
theorem c_has3 (S : CallFix p m c cc nL s args lw_all RX13) (hK : mK t s) (hP : mW t r x H) (hR : kRm R 2 cells slots) (hsz : ls.size = nL) (i : Nat) {u : Int32} {v : Int32} {w : Int32} (tp : Nat) (hpi : PI tp x) (hi : i < 10) {i0 : Int32} (e0 : i0 = nI i) (hrest : (rest.map fun v => v.category).sum ≤ 8) (hdg : decode cc pc = .ok (.invokevirtual 237, 3)) (kk : W p l e R s m args below meth c H locs cells slots Q (F0 m (pc + 3) ls (.int (b2i (m_h3 tp x i u v w)) :: rest))) : W p l e R s m args below meth c H locs cells slots Q (F0 m pc ls (.int w :: .int v :: .int u :: .int i0 :: .ref (t.2.1 0) :: rest)) := by
  subst e0
  exact kk_Ri (W.runV (As := [.int (nI i), .int u, .int v, .int w]) (rest := rest) S (k_has3 l t r x i u v w tp hpi hi) (cwV 4 S.2.2.2.2 (lw_V q1621 q1623 qs92 q117 q1624) rfl rfl rfl (by decide +kernel) ⟨hR.1, by have := hR.2.1; show 8 + (5 + 11) + 38 * 1 ≤ R.locals; omega⟩) ⟨m_blind, m_recv hK hP, m_pre hK hP⟩ rfl rfl hsz rfl (lv_room hrest) hdg ⟨hR.2.2.1, hR.2.2.2⟩) kk
theorem c_isWord (S : CallFix p m c cc nL s args lw_all RX13) (hK : mK t s) (hP : mW t r x H) (hR : kRm R 1 cells slots) (hsz : ls.size = nL) {v : Int32} (hrest : (rest.map fun v => v.category).sum ≤ 8) (hdg : decode cc pc = .ok (.invokevirtual 234, 3)) (kk : W p l e R s m args below meth c H locs cells slots Q (F0 m (pc + 3) ls (.int (b2i (m_wd x v)) :: rest))) : W p l e R s m args below meth c H locs cells slots Q (F0 m pc ls (.int v :: .ref (t.2.1 0) :: rest)) := by
  exact kk_Ri (W.runV (As := [.int v]) (rest := rest) S (k_isWord l t r x v) (cwV 1 S.2.2.2.2 (lw_V q1617 q1619 qs91 q117 q1620) rfl rfl rfl (by decide +kernel) ⟨hR.1, by have := hR.2.1; show 8 + (2 + 11) + 38 * 0 ≤ R.locals; omega⟩) ⟨m_blind, m_recv hK hP, m_pre hK hP⟩ rfl rfl hsz rfl (lv_room hrest) hdg ⟨hR.2.2.1, hR.2.2.2⟩) kk
theorem c_fails (S : CallFix p m c cc nL s args lw_all RX13) (hK : mK t s) (hP : mW t r x H) (hS : va_S (mA t) H0 H locs) (hR : kRm R 1 cells slots) (hsz : ls.size = nL) (hrest : (rest.map fun v => v.category).sum ≤ 8) (hdg : decode cc pc = .ok (.invokevirtual 241, 3)) (kk : ∀ (H1 : Heap) (locs1 : List Loc), mW t (r) (failx x) H1 → va_S (mA t) H0 H1 locs1 → W p l e R s m args below meth c H1 locs1 cells slots Q (F0 m (pc + 3) ls (.int (b2i (False)) :: rest))) : W p l e R s m args below meth c H locs cells slots Q (F0 m pc ls (.ref (t.2.1 0) :: rest)) := by
  exact kk_Wi (W.runV (As := []) (rest := rest) S (k_fails l t r x) (cwV 0 S.2.2.2.2 (lw_V q1637 q1639 qs96 q117 q1640) rfl rfl rfl (by decide +kernel) ⟨hR.1, by have := hR.2.1; show 8 + (1 + 11) + 38 * 0 ≤ R.locals; omega⟩) ⟨m_blind, m_recv hK hP, m_pre hK hP⟩ rfl rfl hsz rfl (lv_room hrest) hdg ⟨hR.2.2.1, hR.2.2.2⟩) hS (fun _ h => h) (fun _ h => h) (fun H1 locs1 hB _ _ hS => kk H1 locs1 hB hS)
end MC
set_option maxHeartbeats 4000000 in
set_option maxRecDepth 100000 in
theorem k_isFour (l : Launch) (t : MT) (r : Rw) (x : Nat → Rw) (u : Int32) (v : Int32) (w : Int32) (y : Int32) (tp : Nat) (hpi : PI tp x) : Met l yX13_isFour (ws_ yX13_isFour cX13_isFour 5 (some .boolean)) (rmF 2) (va_Pc [.ref (t.2.1 0), .int u, .int v, .int w, .int y] (fun U => mK t U ∧ mW t r x U.heap)) (kR (some (.int (b2i (m_4 tp x u v w y))))) 0 0 (fun _ => False) := by
  refine kk_start (by decide) (Nat.le_of_ble_eq_true rfl) ?_
  intro p e s m below meth c S hr hlk hin hB ls hl
  obtain ⟨hK, hP⟩ := hB
  have hx := S.1
  have hb := S.2.1
  have hown : s.vm.findClass RX13 = some m.cls := S.2.2.2.1
  have hts := S.2.2.2.2
  have hl : lv_has ls 5 [(0, .ref (t.2.1 0)), (1, .int (u)), (2, .int (v)), (3, .int (w)), (4, .int (y))] := hl
  refine lv_aload_n hx hb dX13_isFour_0 rfl (lv_at hl 0 rfl) ?_
  refine lv_iconst (v := 4) hx hb dX13_isFour_1 (by decide) ?_
  refine c_isWord S hK hP (rm_ok (Nat.le_of_ble_eq_true rfl)) hl.1 (Nat.le_of_ble_eq_true rfl) dX13_isFour_2 ?_
  refine kb_ifeq (tgt := 35) S dX13_isFour_5 (by decide) (fun c_5 => ?_) (fun c_5 => ?_)
  · skip
    refine lv_iconst (v := 0) hx hb dX13_isFour_35 (by decide) ?_
    exact kk_zfR S hr hlk rfl rfl (fun z => c_5 z.1) dX13_isFour_36
  · skip
    refine lv_aload_n hx hb dX13_isFour_8 rfl (lv_at hl 0 rfl) ?_
    refine lv_iconst (v := 0) hx hb dX13_isFour_9 (by decide) ?_
    refine lv_iload_n hx hb dX13_isFour_10 rfl (lv_at hl 1 rfl) ?_
    refine lv_iload_n hx hb dX13_isFour_11 rfl (lv_at hl 2 rfl) ?_
    refine lv_iload_n hx hb dX13_isFour_12 rfl (lv_at hl 3 rfl) ?_
    refine c_has3 S hK hP (rm_ok (Nat.le_of_ble_eq_true rfl)) hl.1 (0) (tp) hpi (by omega) rfl (Nat.le_of_ble_eq_true rfl) dX13_isFour_13 ?_
    refine kb_ifeq (tgt := 35) S dX13_isFour_16 (by decide) (fun c_16 => ?_) (fun c_16 => ?_)
    · skip
      refine lv_iconst (v := 0) hx hb dX13_isFour_35 (by decide) ?_
      exact kk_zfR S hr hlk rfl rfl (fun z => c_16 z.2.1) dX13_isFour_36
    · skip
      refine lv_aload_n hx hb dX13_isFour_19 rfl (lv_at hl 0 rfl) ?_
      refine lv_iconst (v := 1) hx hb dX13_isFour_20 (by decide) ?_
      refine lv_iload_n hx hb dX13_isFour_21 rfl (lv_at hl 2 rfl) ?_
      refine lv_iload_n hx hb dX13_isFour_22 rfl (lv_at hl 3 rfl) ?_
      refine lv_iload hx hb dX13_isFour_23 (lv_at hl 4 rfl) ?_
      refine c_has3 S hK hP (rm_ok (Nat.le_of_ble_eq_true rfl)) hl.1 (1) (tp) hpi (by omega) rfl (Nat.le_of_ble_eq_true rfl) dX13_isFour_25 ?_
      refine kb_ifeq (tgt := 35) S dX13_isFour_28 (by decide) (fun c_28 => ?_) (fun c_28 => ?_)
      · skip
        refine lv_iconst (v := 0) hx hb dX13_isFour_35 (by decide) ?_
        exact kk_zfR S hr hlk rfl rfl (fun z => c_28 z.2.2) dX13_isFour_36
      · skip
        refine lv_iconst (v := 1) hx hb dX13_isFour_31 (by decide) ?_
        refine lv_goto (tgt := 36) hx hb dX13_isFour_32 (by decide) ?_
        exact kk_ztR S hr hlk rfl rfl (⟨c_5, c_16, c_28⟩) dX13_isFour_36
set_option maxHeartbeats 4000000 in
set_option maxRecDepth 100000 in
theorem k_isFive (l : Launch) (t : MT) (r : Rw) (x : Nat → Rw) (u : Int32) (v : Int32) (w : Int32) (y : Int32) (z : Int32) (tp : Nat) (hpi : PI tp x) : Met l yX13_isFive (ws_ yX13_isFive cX13_isFive 6 (some .boolean)) (rmF 2) (va_Pc [.ref (t.2.1 0), .int u, .int v, .int w, .int y, .int z] (fun U => mK t U ∧ mW t r x U.heap)) (kR (some (.int (b2i (m_5 tp x u v w y z))))) 0 0 (fun _ => False) := by
  refine kk_start (by decide) (Nat.le_of_ble_eq_true rfl) ?_
  intro p e s m below meth c S hr hlk hin hB ls hl
  obtain ⟨hK, hP⟩ := hB
  have hx := S.1
  have hb := S.2.1
  have hown : s.vm.findClass RX13 = some m.cls := S.2.2.2.1
  have hts := S.2.2.2.2
  have hl : lv_has ls 6 [(0, .ref (t.2.1 0)), (1, .int (u)), (2, .int (v)), (3, .int (w)), (4, .int (y)), (5, .int (z))] := hl
  refine lv_aload_n hx hb dX13_isFive_0 rfl (lv_at hl 0 rfl) ?_
  refine lv_iconst (v := 5) hx hb dX13_isFive_1 (by decide) ?_
  refine c_isWord S hK hP (rm_ok (Nat.le_of_ble_eq_true rfl)) hl.1 (Nat.le_of_ble_eq_true rfl) dX13_isFive_2 ?_
  refine kb_ifeq (tgt := 36) S dX13_isFive_5 (by decide) (fun c_5 => ?_) (fun c_5 => ?_)
  · skip
    refine lv_iconst (v := 0) hx hb dX13_isFive_36 (by decide) ?_
    exact kk_zfR S hr hlk rfl rfl (fun z => c_5 z.1) dX13_isFive_37
  · skip
    refine lv_aload_n hx hb dX13_isFive_8 rfl (lv_at hl 0 rfl) ?_
    refine lv_iconst (v := 0) hx hb dX13_isFive_9 (by decide) ?_
    refine lv_iload_n hx hb dX13_isFive_10 rfl (lv_at hl 1 rfl) ?_
    refine lv_iload_n hx hb dX13_isFive_11 rfl (lv_at hl 2 rfl) ?_
    refine lv_iload_n hx hb dX13_isFive_12 rfl (lv_at hl 3 rfl) ?_
    refine c_has3 S hK hP (rm_ok (Nat.le_of_ble_eq_true rfl)) hl.1 (0) (tp) hpi (by omega) rfl (Nat.le_of_ble_eq_true rfl) dX13_isFive_13 ?_
    refine kb_ifeq (tgt := 36) S dX13_isFive_16 (by decide) (fun c_16 => ?_) (fun c_16 => ?_)
    · skip
      refine lv_iconst (v := 0) hx hb dX13_isFive_36 (by decide) ?_
      exact kk_zfR S hr hlk rfl rfl (fun z => c_16 z.2.1) dX13_isFive_37
    · skip
      refine lv_aload_n hx hb dX13_isFive_19 rfl (lv_at hl 0 rfl) ?_
      refine lv_iconst (v := 2) hx hb dX13_isFive_20 (by decide) ?_
      refine lv_iload_n hx hb dX13_isFive_21 rfl (lv_at hl 3 rfl) ?_
      refine lv_iload hx hb dX13_isFive_22 (lv_at hl 4 rfl) ?_
      refine lv_iload hx hb dX13_isFive_24 (lv_at hl 5 rfl) ?_
      refine c_has3 S hK hP (rm_ok (Nat.le_of_ble_eq_true rfl)) hl.1 (2) (tp) hpi (by omega) rfl (Nat.le_of_ble_eq_true rfl) dX13_isFive_26 ?_
      refine kb_ifeq (tgt := 36) S dX13_isFive_29 (by decide) (fun c_29 => ?_) (fun c_29 => ?_)
      · skip
        refine lv_iconst (v := 0) hx hb dX13_isFive_36 (by decide) ?_
        exact kk_zfR S hr hlk rfl rfl (fun z => c_29 z.2.2) dX13_isFive_37
      · skip
        refine lv_iconst (v := 1) hx hb dX13_isFive_32 (by decide) ?_
        refine lv_goto (tgt := 37) hx hb dX13_isFive_33 (by decide) ?_
        exact kk_ztR S hr hlk rfl rfl (⟨c_5, c_16, c_29⟩) dX13_isFive_37
set_option maxHeartbeats 4000000 in
set_option maxRecDepth 100000 in
theorem k_isSix (l : Launch) (t : MT) (r : Rw) (x : Nat → Rw) (u : Int32) (v : Int32) (w : Int32) (y : Int32) (z : Int32) (q : Int32) (tp : Nat) (hpi : PI tp x) : Met l yX13_isSix (ws_ yX13_isSix cX13_isSix 7 (some .boolean)) (rmF 2) (va_Pc [.ref (t.2.1 0), .int u, .int v, .int w, .int y, .int z, .int q] (fun U => mK t U ∧ mW t r x U.heap)) (kR (some (.int (b2i (m_6 tp x u v w y z q))))) 0 0 (fun _ => False) := by
  refine kk_start (by decide) (Nat.le_of_ble_eq_true rfl) ?_
  intro p e s m below meth c S hr hlk hin hB ls hl
  obtain ⟨hK, hP⟩ := hB
  have hx := S.1
  have hb := S.2.1
  have hown : s.vm.findClass RX13 = some m.cls := S.2.2.2.1
  have hts := S.2.2.2.2
  have hl : lv_has ls 7 [(0, .ref (t.2.1 0)), (1, .int (u)), (2, .int (v)), (3, .int (w)), (4, .int (y)), (5, .int (z)), (6, .int (q))] := hl
  refine lv_aload_n hx hb dX13_isSix_0 rfl (lv_at hl 0 rfl) ?_
  refine lv_bipush (v := 6) hx hb dX13_isSix_1 (by decide) ?_
  refine c_isWord S hK hP (rm_ok (Nat.le_of_ble_eq_true rfl)) hl.1 (Nat.le_of_ble_eq_true rfl) dX13_isSix_3 ?_
  refine kb_ifeq (tgt := 38) S dX13_isSix_6 (by decide) (fun c_6 => ?_) (fun c_6 => ?_)
  · skip
    refine lv_iconst (v := 0) hx hb dX13_isSix_38 (by decide) ?_
    exact kk_zfR S hr hlk rfl rfl (fun z => c_6 z.1) dX13_isSix_39
  · skip
    refine lv_aload_n hx hb dX13_isSix_9 rfl (lv_at hl 0 rfl) ?_
    refine lv_iconst (v := 0) hx hb dX13_isSix_10 (by decide) ?_
    refine lv_iload_n hx hb dX13_isSix_11 rfl (lv_at hl 1 rfl) ?_
    refine lv_iload_n hx hb dX13_isSix_12 rfl (lv_at hl 2 rfl) ?_
    refine lv_iload_n hx hb dX13_isSix_13 rfl (lv_at hl 3 rfl) ?_
    refine c_has3 S hK hP (rm_ok (Nat.le_of_ble_eq_true rfl)) hl.1 (0) (tp) hpi (by omega) rfl (Nat.le_of_ble_eq_true rfl) dX13_isSix_14 ?_
    refine kb_ifeq (tgt := 38) S dX13_isSix_17 (by decide) (fun c_17 => ?_) (fun c_17 => ?_)
    · skip
      refine lv_iconst (v := 0) hx hb dX13_isSix_38 (by decide) ?_
      exact kk_zfR S hr hlk rfl rfl (fun z => c_17 z.2.1) dX13_isSix_39
    · skip
      refine lv_aload_n hx hb dX13_isSix_20 rfl (lv_at hl 0 rfl) ?_
      refine lv_iconst (v := 3) hx hb dX13_isSix_21 (by decide) ?_
      refine lv_iload hx hb dX13_isSix_22 (lv_at hl 4 rfl) ?_
      refine lv_iload hx hb dX13_isSix_24 (lv_at hl 5 rfl) ?_
      refine lv_iload hx hb dX13_isSix_26 (lv_at hl 6 rfl) ?_
      refine c_has3 S hK hP (rm_ok (Nat.le_of_ble_eq_true rfl)) hl.1 (3) (tp) hpi (by omega) rfl (Nat.le_of_ble_eq_true rfl) dX13_isSix_28 ?_
      refine kb_ifeq (tgt := 38) S dX13_isSix_31 (by decide) (fun c_31 => ?_) (fun c_31 => ?_)
      · skip
        refine lv_iconst (v := 0) hx hb dX13_isSix_38 (by decide) ?_
        exact kk_zfR S hr hlk rfl rfl (fun z => c_31 z.2.2) dX13_isSix_39
      · skip
        refine lv_iconst (v := 1) hx hb dX13_isSix_34 (by decide) ?_
        refine lv_goto (tgt := 39) hx hb dX13_isSix_35 (by decide) ?_
        exact kk_ztR S hr hlk rfl rfl (⟨c_6, c_17, c_31⟩) dX13_isSix_39
section MC
variable {p : Program} {l : Launch} {e : Env} {R : Room} {s : State} {m : MethodId} {args : Array Value} {below : List Frame} {meth : Method} {c : Code} {H H0 : Heap} {locs : List Loc} {cells slots : Nat} {Q : State → Prop}
variable {cc : ByteArray} {pc nL : Nat} {ls : Array Slot} {rest : List Value} {t : MT} {r : Rw} {x : Nat → Rw}
theorem c_isFour (S : CallFix p m c cc nL s args lw_all RX13) (hK : mK t s) (hP : mW t r x H) (hR : kRm R 3 cells slots) (hsz : ls.size = nL) {u : Int32} {v : Int32} {w : Int32} {y : Int32} (tp : Nat) (hpi : PI tp x) (hrest : (rest.map fun v => v.category).sum ≤ 8) (hdg : decode cc pc = .ok (.invokevirtual 245, 3)) (kk : W p l e R s m args below meth c H locs cells slots Q (F0 m (pc + 3) ls (.int (b2i (m_4 tp x u v w y)) :: rest))) : W p l e R s m args below meth c H locs cells slots Q (F0 m pc ls (.int y :: .int w :: .int v :: .int u :: .ref (t.2.1 0) :: rest)) := by
  exact kk_Ri (W.runV (As := [.int u, .int v, .int w, .int y]) (rest := rest) S (k_isFour l t r x u v w y tp hpi) (cwV 4 S.2.2.2.2 (lw_V q1613 q1615 qs90 q117 q1616) rfl rfl rfl (by decide +kernel) ⟨hR.1, by have := hR.2.1; show 8 + (5 + 11) + 38 * 2 ≤ R.locals; omega⟩) ⟨m_blind, m_recv hK hP, m_pre hK hP⟩ rfl rfl hsz rfl (lv_room hrest) hdg ⟨hR.2.2.1, hR.2.2.2⟩) kk
theorem c_isFive (S : CallFix p m c cc nL s args lw_all RX13) (hK : mK t s) (hP : mW t r x H) (hR : kRm R 3 cells slots) (hsz : ls.size = nL) {u : Int32} {v : Int32} {w : Int32} {y : Int32} {z : Int32} (tp : Nat) (hpi : PI tp x) (hrest : (rest.map fun v => v.category).sum ≤ 8) (hdg : decode cc pc = .ok (.invokevirtual 248, 3)) (kk : W p l e R s m args below meth c H locs cells slots Q (F0 m (pc + 3) ls (.int (b2i (m_5 tp x u v w y z)) :: rest))) : W p l e R s m args below meth c H locs cells slots Q (F0 m pc ls (.int z :: .int y :: .int w :: .int v :: .int u :: .ref (t.2.1 0) :: rest)) := by
  exact kk_Ri (W.runV (As := [.int u, .int v, .int w, .int y, .int z]) (rest := rest) S (k_isFive l t r x u v w y z tp hpi) (cwV 5 S.2.2.2.2 (lw_V q1625 q1627 qs93 q117 q1628) rfl rfl rfl (by decide +kernel) ⟨hR.1, by have := hR.2.1; show 8 + (6 + 11) + 38 * 2 ≤ R.locals; omega⟩) ⟨m_blind, m_recv hK hP, m_pre hK hP⟩ rfl rfl hsz rfl (lv_room hrest) hdg ⟨hR.2.2.1, hR.2.2.2⟩) kk
theorem c_isSix (S : CallFix p m c cc nL s args lw_all RX13) (hK : mK t s) (hP : mW t r x H) (hR : kRm R 3 cells slots) (hsz : ls.size = nL) {u : Int32} {v : Int32} {w : Int32} {y : Int32} {z : Int32} {q : Int32} (tp : Nat) (hpi : PI tp x) (hrest : (rest.map fun v => v.category).sum ≤ 8) (hdg : decode cc pc = .ok (.invokevirtual 252, 3)) (kk : W p l e R s m args below meth c H locs cells slots Q (F0 m (pc + 3) ls (.int (b2i (m_6 tp x u v w y z q)) :: rest))) : W p l e R s m args below meth c H locs cells slots Q (F0 m pc ls (.int q :: .int z :: .int y :: .int w :: .int v :: .int u :: .ref (t.2.1 0) :: rest)) := by
  exact kk_Ri (W.runV (As := [.int u, .int v, .int w, .int y, .int z, .int q]) (rest := rest) S (k_isSix l t r x u v w y z q tp hpi) (cwV 6 S.2.2.2.2 (lw_V q1629 q1631 qs94 q117 q1632) rfl rfl rfl (by decide +kernel) ⟨hR.1, by have := hR.2.1; show 8 + (7 + 11) + 38 * 2 ≤ R.locals; omega⟩) ⟨m_blind, m_recv hK hP, m_pre hK hP⟩ rfl rfl hsz rfl (lv_room hrest) hdg ⟨hR.2.2.1, hR.2.2.2⟩) kk
end MC
set_option maxHeartbeats 4000000 in
set_option maxRecDepth 100000 in
theorem k_isNumber (l : Launch) (t : MT) (r : Rw) (x : Nat → Rw) (v : Int32) (w : Int32) : Met l yX13_isNumber (ws_ yX13_isNumber cX13_isNumber 3 (some .boolean)) (rmF 1) (va_Pc [.ref (t.2.1 0), .int v, .int w] (fun U => mK t U ∧ mW t r x U.heap)) (kW (some (.int (b2i (m_num x v w)))) (mW t (r) (if m_num x v w then x else failx x)) (mA t)) 0 0 (mA t) := by
  refine kk_start (by decide) (Nat.le_of_ble_eq_true rfl) ?_
  intro p e s m below meth c S hr hlk hin hB ls hl
  obtain ⟨hK, hP⟩ := hB
  have hx := S.1
  have hb := S.2.1
  have hown : s.vm.findClass RX13 = some m.cls := S.2.2.2.1
  have hts := S.2.2.2.2
  have hS : va_S (mA t) s.heap s.heap [] := va_S.rf
  have hl : lv_has ls 3 [(0, .ref (t.2.1 0)), (1, .int (v)), (2, .int (w))] := hl
  refine lv_aload_n hx hb dX13_isNumber_0 rfl (lv_at hl 0 rfl) ?_
  refine mg_token S hK hP dX13_isNumber_1 ?_
  refine lv_iconst (v := 2) hx hb dX13_isNumber_4 (by decide) ?_
  refine lv_icmp_ne (tgt := 23) hx hb dX13_isNumber_5 (by decide) (fun c_5 => ?_) (fun c_5 => ?_)
  · skip
    refine lv_aload_n hx hb dX13_isNumber_23 rfl (lv_at hl 0 rfl) ?_
    refine c_fails S hK hP hS (rm_ok (Nat.le_of_ble_eq_true rfl)) hl.1 (Nat.le_of_ble_eq_true rfl) dX13_isNumber_24 (fun H locs hP hS => ?_)
    refine kb_ifeq (tgt := 34) S dX13_isNumber_27 (by decide) (fun c_27 => ?_) (fun c_27 => ?_)
    · skip
      refine lv_iconst (v := 0) hx hb dX13_isNumber_34 (by decide) ?_
      exact kk_zfW S hr hlk hS (by rw [if_neg (show ¬ m_num x v w from fun z => c_5 z.1)]; exact hP) (fun z => c_5 z.1) dX13_isNumber_35
    · exact c_27.elim
  · skip
    refine lv_aload_n hx hb dX13_isNumber_8 rfl (lv_at hl 0 rfl) ?_
    refine mg_value S hK hP dX13_isNumber_9 ?_
    refine lv_i2l hx hb dX13_isNumber_12 rfl ?_
    refine lv_iload_n hx hb dX13_isNumber_13 rfl (lv_at hl 1 rfl) ?_
    refine lv_i2l hx hb dX13_isNumber_14 rfl ?_
    refine lv_iload_n hx hb dX13_isNumber_15 rfl (lv_at hl 2 rfl) ?_
    refine lv_i2l hx hb dX13_isNumber_16 rfl ?_
    refine c_isIn S (rm_ok (Nat.le_of_ble_eq_true rfl)) hl.1 (Nat.le_of_ble_eq_true rfl) dX13_isNumber_17 ?_
    refine kb_ifne (tgt := 30) S dX13_isNumber_20 (by decide) (fun c_20 => ?_) (fun c_20 => ?_)
    · skip
      refine lv_iconst (v := 1) hx hb dX13_isNumber_30 (by decide) ?_
      refine lv_goto (tgt := 35) hx hb dX13_isNumber_31 (by decide) ?_
      exact kk_ztW S hr hlk hS (by rw [if_pos (show m_num x v w from ⟨c_5, c_20⟩)]; exact hP) (⟨c_5, c_20⟩) dX13_isNumber_35
    · skip
      refine lv_aload_n hx hb dX13_isNumber_23 rfl (lv_at hl 0 rfl) ?_
      refine c_fails S hK hP hS (rm_ok (Nat.le_of_ble_eq_true rfl)) hl.1 (Nat.le_of_ble_eq_true rfl) dX13_isNumber_24 (fun H locs hP hS => ?_)
      refine kb_ifeq (tgt := 34) S dX13_isNumber_27 (by decide) (fun c_27 => ?_) (fun c_27 => ?_)
      · skip
        refine lv_iconst (v := 0) hx hb dX13_isNumber_34 (by decide) ?_
        exact kk_zfW S hr hlk hS (by rw [if_neg (show ¬ m_num x v w from fun z => c_20 z.2)]; exact hP) (fun z => c_20 z.2) dX13_isNumber_35
      · exact c_27.elim
set_option maxHeartbeats 4000000 in
set_option maxRecDepth 100000 in
theorem k_kindHere (l : Launch) (t : MT) (r : Rw) (x : Nat → Rw) (tp : Nat) (hpi : PI tp x) : Met l yX13_kindHere (ws_ yX13_kindHere cX13_kindHere 1 (some .int)) (rmF 3) (va_Pc [.ref (t.2.1 0)] (fun U => mK t U ∧ mW t r x U.heap)) (kR (some (.int (oi (m_kind tp x))))) 0 0 (fun _ => False) := by
  refine kk_start (by decide) (Nat.le_of_ble_eq_true rfl) ?_
  intro p e s m below meth c S hr hlk hin hB ls hl
  obtain ⟨hK, hP⟩ := hB
  have hx := S.1
  have hb := S.2.1
  have hown : s.vm.findClass RX13 = some m.cls := S.2.2.2.1
  have hts := S.2.2.2.2
  have hl : lv_has ls 1 [(0, .ref (t.2.1 0))] := hl
  refine lv_aload_n hx hb dX13_kindHere_0 rfl (lv_at hl 0 rfl) ?_
  refine lv_bipush (v := 99) hx hb dX13_kindHere_1 (by decide) ?_
  refine lv_bipush (v := 97) hx hb dX13_kindHere_3 (by decide) ?_
  refine lv_bipush (v := 115) hx hb dX13_kindHere_5 (by decide) ?_
  refine lv_bipush (v := 107) hx hb dX13_kindHere_7 (by decide) ?_
  refine c_isFour S hK hP (rm_ok (Nat.le_of_ble_eq_true rfl)) hl.1 (tp) hpi (Nat.le_of_ble_eq_true rfl) dX13_kindHere_9 ?_
  refine kb_ifeq (tgt := 17) S dX13_kindHere_12 (by decide) (fun c_12 => ?_) (fun c_12 => ?_)
  · skip
    refine lv_aload_n hx hb dX13_kindHere_17 rfl (lv_at hl 0 rfl) ?_
    refine lv_bipush (v := 99) hx hb dX13_kindHere_18 (by decide) ?_
    refine lv_bipush (v := 114) hx hb dX13_kindHere_20 (by decide) ?_
    refine lv_bipush (v := 97) hx hb dX13_kindHere_22 (by decide) ?_
    refine lv_bipush (v := 99) hx hb dX13_kindHere_24 (by decide) ?_
    refine lv_bipush (v := 107) hx hb dX13_kindHere_26 (by decide) ?_
    refine c_isFive S hK hP (rm_ok (Nat.le_of_ble_eq_true rfl)) hl.1 (tp) hpi (Nat.le_of_ble_eq_true rfl) dX13_kindHere_28 ?_
    refine kb_ifeq (tgt := 36) S dX13_kindHere_31 (by decide) (fun c_31 => ?_) (fun c_31 => ?_)
    · skip
      refine lv_aload_n hx hb dX13_kindHere_36 rfl (lv_at hl 0 rfl) ?_
      refine lv_bipush (v := 114) hx hb dX13_kindHere_37 (by decide) ?_
      refine lv_bipush (v := 111) hx hb dX13_kindHere_39 (by decide) ?_
      refine lv_bipush (v := 108) hx hb dX13_kindHere_41 (by decide) ?_
      refine lv_bipush (v := 108) hx hb dX13_kindHere_43 (by decide) ?_
      refine c_isFour S hK hP (rm_ok (Nat.le_of_ble_eq_true rfl)) hl.1 (tp) hpi (Nat.le_of_ble_eq_true rfl) dX13_kindHere_45 ?_
      refine kb_ifeq (tgt := 53) S dX13_kindHere_48 (by decide) (fun c_48 => ?_) (fun c_48 => ?_)
      · skip
        refine lv_aload_n hx hb dX13_kindHere_53 rfl (lv_at hl 0 rfl) ?_
        refine lv_bipush (v := 109) hx hb dX13_kindHere_54 (by decide) ?_
        refine lv_bipush (v := 101) hx hb dX13_kindHere_56 (by decide) ?_
        refine lv_bipush (v := 108) hx hb dX13_kindHere_58 (by decide) ?_
        refine lv_bipush (v := 108) hx hb dX13_kindHere_60 (by decide) ?_
        refine lv_bipush (v := 111) hx hb dX13_kindHere_62 (by decide) ?_
        refine lv_bipush (v := 119) hx hb dX13_kindHere_64 (by decide) ?_
        refine c_isSix S hK hP (rm_ok (Nat.le_of_ble_eq_true rfl)) hl.1 (tp) hpi (Nat.le_of_ble_eq_true rfl) dX13_kindHere_66 ?_
        refine kb_ifeq (tgt := 74) S dX13_kindHere_69 (by decide) (fun c_69 => ?_) (fun c_69 => ?_)
        · skip
          refine lv_aload_n hx hb dX13_kindHere_74 rfl (lv_at hl 0 rfl) ?_
          refine lv_bipush (v := 101) hx hb dX13_kindHere_75 (by decide) ?_
          refine lv_bipush (v := 99) hx hb dX13_kindHere_77 (by decide) ?_
          refine lv_bipush (v := 104) hx hb dX13_kindHere_79 (by decide) ?_
          refine lv_bipush (v := 111) hx hb dX13_kindHere_81 (by decide) ?_
          refine c_isFour S hK hP (rm_ok (Nat.le_of_ble_eq_true rfl)) hl.1 (tp) hpi (Nat.le_of_ble_eq_true rfl) dX13_kindHere_83 ?_
          refine kb_ifeq (tgt := 91) S dX13_kindHere_86 (by decide) (fun c_86 => ?_) (fun c_86 => ?_)
          · skip
            refine lv_aload_n hx hb dX13_kindHere_91 rfl (lv_at hl 0 rfl) ?_
            refine lv_bipush (v := 104) hx hb dX13_kindHere_92 (by decide) ?_
            refine lv_bipush (v := 101) hx hb dX13_kindHere_94 (by decide) ?_
            refine lv_bipush (v := 97) hx hb dX13_kindHere_96 (by decide) ?_
            refine lv_bipush (v := 116) hx hb dX13_kindHere_98 (by decide) ?_
            refine c_isFour S hK hP (rm_ok (Nat.le_of_ble_eq_true rfl)) hl.1 (tp) hpi (Nat.le_of_ble_eq_true rfl) dX13_kindHere_100 ?_
            refine kb_ifeq (tgt := 108) S dX13_kindHere_103 (by decide) (fun c_103 => ?_) (fun c_103 => ?_)
            · skip
              refine lv_aload_n hx hb dX13_kindHere_108 rfl (lv_at hl 0 rfl) ?_
              refine lv_bipush (v := 102) hx hb dX13_kindHere_109 (by decide) ?_
              refine lv_bipush (v := 111) hx hb dX13_kindHere_111 (by decide) ?_
              refine lv_bipush (v := 114) hx hb dX13_kindHere_113 (by decide) ?_
              refine lv_bipush (v := 103) hx hb dX13_kindHere_115 (by decide) ?_
              refine lv_bipush (v := 101) hx hb dX13_kindHere_117 (by decide) ?_
              refine lv_bipush (v := 100) hx hb dX13_kindHere_119 (by decide) ?_
              refine c_isSix S hK hP (rm_ok (Nat.le_of_ble_eq_true rfl)) hl.1 (tp) hpi (Nat.le_of_ble_eq_true rfl) dX13_kindHere_121 ?_
              refine kb_ifeq (tgt := 132) S dX13_kindHere_124 (by decide) (fun c_124 => ?_) (fun c_124 => ?_)
              · skip
                refine lv_iconst (v := (-1)) hx hb dX13_kindHere_132 (by decide) ?_
                exact kk_iretR S hr hlk rfl rfl (by unfold m_kind; rw [if_neg c_12, if_neg c_31, if_neg c_48, if_neg c_69, if_neg c_86, if_neg c_103, if_neg c_124]; rfl) dX13_kindHere_133
              · skip
                refine lv_bipush (v := 6) hx hb dX13_kindHere_127 (by decide) ?_
                refine lv_goto (tgt := 133) hx hb dX13_kindHere_129 (by decide) ?_
                exact kk_iretR S hr hlk rfl rfl (by unfold m_kind; rw [if_neg c_12, if_neg c_31, if_neg c_48, if_neg c_69, if_neg c_86, if_neg c_103, if_pos c_124]; rfl) dX13_kindHere_133
            · skip
              refine lv_iconst (v := 5) hx hb dX13_kindHere_106 (by decide) ?_
              exact kk_iretR S hr hlk rfl rfl (by unfold m_kind; rw [if_neg c_12, if_neg c_31, if_neg c_48, if_neg c_69, if_neg c_86, if_pos c_103]; rfl) dX13_kindHere_107
          · skip
            refine lv_iconst (v := 4) hx hb dX13_kindHere_89 (by decide) ?_
            exact kk_iretR S hr hlk rfl rfl (by unfold m_kind; rw [if_neg c_12, if_neg c_31, if_neg c_48, if_neg c_69, if_pos c_86]; rfl) dX13_kindHere_90
        · skip
          refine lv_iconst (v := 3) hx hb dX13_kindHere_72 (by decide) ?_
          exact kk_iretR S hr hlk rfl rfl (by unfold m_kind; rw [if_neg c_12, if_neg c_31, if_neg c_48, if_pos c_69]; rfl) dX13_kindHere_73
      · skip
        refine lv_iconst (v := 2) hx hb dX13_kindHere_51 (by decide) ?_
        exact kk_iretR S hr hlk rfl rfl (by unfold m_kind; rw [if_neg c_12, if_neg c_31, if_pos c_48]; rfl) dX13_kindHere_52
    · skip
      refine lv_iconst (v := 1) hx hb dX13_kindHere_34 (by decide) ?_
      exact kk_iretR S hr hlk rfl rfl (by unfold m_kind; rw [if_neg c_12, if_pos c_31]; rfl) dX13_kindHere_35
  · skip
    refine lv_iconst (v := 0) hx hb dX13_kindHere_15 (by decide) ?_
    exact kk_iretR S hr hlk rfl rfl (by unfold m_kind; rw [if_pos c_12]; rfl) dX13_kindHere_16
section MC
variable {p : Program} {l : Launch} {e : Env} {R : Room} {s : State} {m : MethodId} {args : Array Value} {below : List Frame} {meth : Method} {c : Code} {H H0 : Heap} {locs : List Loc} {cells slots : Nat} {Q : State → Prop}
variable {cc : ByteArray} {pc nL : Nat} {ls : Array Slot} {rest : List Value} {t : MT} {r : Rw} {x : Nat → Rw}
theorem c_isNumber (S : CallFix p m c cc nL s args lw_all RX13) (hK : mK t s) (hP : mW t r x H) (hS : va_S (mA t) H0 H locs) (hR : kRm R 2 cells slots) (hsz : ls.size = nL) {v : Int32} {w : Int32} (hrest : (rest.map fun v => v.category).sum ≤ 8) (hdg : decode cc pc = .ok (.invokevirtual 259, 3)) (kk : ∀ (H1 : Heap) (locs1 : List Loc), mW t (r) (if m_num x v w then x else failx x) H1 → va_S (mA t) H0 H1 locs1 → W p l e R s m args below meth c H1 locs1 cells slots Q (F0 m (pc + 3) ls (.int (b2i (m_num x v w)) :: rest))) : W p l e R s m args below meth c H locs cells slots Q (F0 m pc ls (.int w :: .int v :: .ref (t.2.1 0) :: rest)) := by
  exact kk_Wi (W.runV (As := [.int v, .int w]) (rest := rest) S (k_isNumber l t r x v w) (cwV 2 S.2.2.2.2 (lw_V q1645 q1647 qs98 q117 q1648) rfl rfl rfl (by decide +kernel) ⟨hR.1, by have := hR.2.1; show 8 + (3 + 11) + 38 * 1 ≤ R.locals; omega⟩) ⟨m_blind, m_recv hK hP, m_pre hK hP⟩ rfl rfl hsz rfl (lv_room hrest) hdg ⟨hR.2.2.1, hR.2.2.2⟩) hS (fun _ h => h) (fun _ h => h) (fun H1 locs1 hB _ _ hS => kk H1 locs1 hB hS)
theorem c_kindHere (S : CallFix p m c cc nL s args lw_all RX13) (hK : mK t s) (hP : mW t r x H) (hR : kRm R 4 cells slots) (hsz : ls.size = nL) (tp : Nat) (hpi : PI tp x) (hrest : (rest.map fun v => v.category).sum ≤ 8) (hdg : decode cc pc = .ok (.invokevirtual 266, 3)) (kk : W p l e R s m args below meth c H locs cells slots Q (F0 m (pc + 3) ls (.int (oi (m_kind tp x)) :: rest))) : W p l e R s m args below meth c H locs cells slots Q (F0 m pc ls (.ref (t.2.1 0) :: rest)) := by
  exact kk_Ri (W.runV (As := []) (rest := rest) S (k_kindHere l t r x tp hpi) (cwV 0 S.2.2.2.2 (lw_V q1609 q1611 qs89 q117 q1612) rfl rfl rfl (by decide +kernel) ⟨hR.1, by have := hR.2.1; show 8 + (1 + 11) + 38 * 3 ≤ R.locals; omega⟩) ⟨m_blind, m_recv hK hP, m_pre hK hP⟩ rfl rfl hsz rfl (lv_room hrest) hdg ⟨hR.2.2.1, hR.2.2.2⟩) kk
end MC

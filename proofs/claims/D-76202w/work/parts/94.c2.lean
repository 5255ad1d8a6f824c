/-! COMPONENT: casks by number, findings, days, cellars, storms, casks -/
theorem isCask_iff {v : Int32} {n : Nat} (hn : n ≤ 8) : (0 ≤ v ∧ v ≤ nI n - 1) ↔ (0 ≤ v ∧ v < nI n) := by
  have h : ∀ m : Nat, m ≤ 8 → (nI m - 1).toInt = (m : Int) - 1 ∧ (nI m).toInt = m := by decide
  have e := h n hn
  rw [Int32.le_iff_toInt_le (x := v) (y := nI n - 1), Int32.lt_iff_toInt_lt, e.1, e.2]
  have e0 : (0 : Int32).toInt = 0 := rfl
  rw [Int32.le_iff_toInt_le (x := 0), e0]
  constructor <;> (intro hh; exact ⟨hh.1, by omega⟩)
section CC
variable {p : Program} {l : Launch} {e : Env} {R : Room} {s : State} {m : MethodId} {args : Array Value} {below : List Frame} {meth : Method} {c : Code} {H H0 : Heap} {locs : List Loc} {cells slots : Nat} {Q : State → Prop}
variable {cc : ByteArray} {pc nL : Nat} {ls : Array Slot} {rest : List Value} {t : CT} {r : Rw} {x : Nat → Rw}
theorem ck_cask (S : CallFix p m c cc nL s args lw_all RX0) (hK : cK t s) (hP : cX t r x H) (k : Nat) (hk : k < 8) (b : Nat) (hV : pV b r) (hdg : decode cc pc = .ok (.checkcast 41, 3)) (kk : W p l e R s m args below meth c H locs cells slots Q (F0 m (pc + 3) ls (.ref (t.2.1 (600 + (8 * pK r k + k))) :: rest))) : W p l e R s m args below meth c H locs cells slots Q (F0 m pc ls (.ref (t.2.1 (600 + (8 * pK r k + k))) :: rest)) := by
  have hkk := (hV.k hk).2
  revert kk
  rcases (show pK r k = 0 ∨ pK r k = 1 ∨ pK r k = 2 ∨ pK r k = 3 ∨ pK r k = 4 ∨ pK r k = 5 ∨ pK r k = 6 by omega) with e | e | e | e | e | e | e <;> rw [e] <;> intro kk
  · exact va_castS (cC := t.1.1 6) S.1 S.2.1 S.2.2.2.1 (S.2.2.2.2 _ q401) (hK.1.1 6 _ rfl).2 (c_recv0 hK hP hk) hdg kk
  · exact va_castY (C := "ThunderCasks$Crack") S.1 S.2.1 S.2.2.2.1 (S.2.2.2.2 _ q401) (hK.c (w := ("ThunderCasks$Crack", "ThunderCasks$Cask")) 9 rfl) (c_recv1 hK hP hk) hdg kk
  · exact va_castY (C := "ThunderCasks$Roll") S.1 S.2.1 S.2.2.2.1 (S.2.2.2.2 _ q401) (hK.c (w := ("ThunderCasks$Roll", "ThunderCasks$Cask")) 14 rfl) (c_recv2 hK hP hk) hdg kk
  · exact va_castY (C := "ThunderCasks$Mellow") S.1 S.2.1 S.2.2.2.1 (S.2.2.2.2 _ q401) (hK.c (w := ("ThunderCasks$Mellow", "ThunderCasks$Cask")) 13 rfl) (c_recv3 hK hP hk) hdg kk
  · exact va_castY (C := "ThunderCasks$Echo") S.1 S.2.1 S.2.2.2.1 (S.2.2.2.2 _ q401) (hK.c (w := ("ThunderCasks$Echo", "ThunderCasks$Cask")) 10 rfl) (c_recv4 hK hP hk) hdg kk
  · exact va_castY (C := "ThunderCasks$Heat") S.1 S.2.1 S.2.2.2.1 (S.2.2.2.2 _ q401) (hK.c (w := ("ThunderCasks$Heat", "ThunderCasks$Cask")) 12 rfl) (c_recv5 hK hP hk) hdg kk
  · exact va_castY (C := "ThunderCasks$Forged") S.1 S.2.1 S.2.2.2.1 (S.2.2.2.2 _ q401) (hK.c (w := ("ThunderCasks$Forged", "ThunderCasks$Cask")) 11 rfl) (c_recv6 hK hP hk) hdg kk
end CC
set_option maxHeartbeats 4000000 in
set_option maxRecDepth 100000 in
theorem k0_caskOf (l : Launch) (t : CT) (r : Rw) (x : Nat → Rw) (k : Nat) (b : Nat) (hk : k < 8) (hV : pV b r) : Met l yX0_caskOf (ws_ yX0_caskOf cX0_caskOf 2 (some (.object "ThunderCasks$Cask"))) (rmF 0) (va_Pc [.ref (t.2.1 0), .int (nI k)] (fun U => cK t U ∧ cX t r x U.heap)) (kR (some (.ref (t.2.1 (600 + (8 * pK r k + k)))))) 0 0 (fun _ => False) := by
  refine kk_start (by decide) (Nat.le_of_ble_eq_true rfl) ?_
  intro p e s m below meth c S hr hlk hin hB ls hl
  obtain ⟨hK, hP⟩ := hB
  have hx := S.1
  have hb := S.2.1
  have hown : s.vm.findClass RX0 = some m.cls := S.2.2.2.1
  have hts := S.2.2.2.2
  have hl : lv_has ls 2 [(0, .ref (t.2.1 0)), (1, .int ((nI k)))] := hl
  have hk7 := (hV.k hk).2
  refine lv_aload_n hx hb dX0_caskOf_0 rfl (lv_at hl 0 rfl) ?_
  refine cg_casks S hK hP dX0_caskOf_1 ?_
  refine lv_bipush (v := 8) hx hb dX0_caskOf_4 (by decide) ?_
  refine lv_aload_n hx hb dX0_caskOf_6 rfl (lv_at hl 0 rfl) ?_
  refine cg_d S hK hP dX0_caskOf_7 ?_
  refine cd_cask S hK hP dX0_caskOf_10 ?_
  refine lv_iconst (v := 0) hx hb dX0_caskOf_13 (by decide) ?_
  refine ck_aald S hK hP (0) (by omega) rfl dX0_caskOf_14 ?_
  refine lv_iload_n hx hb dX0_caskOf_15 rfl (lv_at hl 1 rfl) ?_
  refine ck_ldc S hK hP (0) (by omega) (k) (by omega) rfl dX0_caskOf_16 ?_
  refine lv_imul hx hb dX0_caskOf_17 ?_
  refine lv_iload_n hx hb dX0_caskOf_18 rfl (lv_at hl 1 rfl) ?_
  refine lv_iadd hx hb dX0_caskOf_19 ?_
  refine ca_casks S hK hP (8 * pK r k + k) (by omega) (nn_add (nn_mul rfl (hV.k hk).1) rfl) dX0_caskOf_20 ?_
  refine ct_casks S hK hP ((8 * pK r k + k)) (by omega) dX0_caskOf_21 ?_
  refine ck_cask S hK hP (k) (by omega) b hV dX0_caskOf_24 ?_
  exact kk_aretR S hr (Or.inl ⟨_, rfl⟩) (Or.inr ⟨_, rfl⟩) hlk rfl rfl (rfl) dX0_caskOf_27
set_option maxHeartbeats 4000000 in
set_option maxRecDepth 100000 in
theorem k0_finding (l : Launch) (t : CT) (r : Rw) (x : Nat → Rw) (j : Nat) (hj : j < 7) : Met l yX0_finding (ws_ yX0_finding cX0_finding 2 (some .int)) (rmF 0) (va_Pc [.ref (t.2.1 0), .int (nI j)] (fun U => cK t U ∧ cX t r x U.heap)) (kW (some (.int (fnd j))) (cX t (r) (va_up x 4 (p_fnd (x 4) j))) (cA t)) 0 0 (cA t) := by
  refine kk_start (by decide) (Nat.le_of_ble_eq_true rfl) ?_
  intro p e s m below meth c S hr hlk hin hB ls hl
  obtain ⟨hK, hP⟩ := hB
  have hx := S.1
  have hb := S.2.1
  have hown : s.vm.findClass RX0 = some m.cls := S.2.2.2.1
  have hts := S.2.2.2.2
  have hS : va_S (cA t) s.heap s.heap [] := va_S.rf
  have hl : lv_has ls 2 [(0, .ref (t.2.1 0)), (1, .int ((nI j)))] := hl
  refine lv_aload_n hx hb dX0_finding_0 rfl (lv_at hl 0 rfl) ?_
  refine cg_findings S hK hP dX0_finding_1 ?_
  refine lv_iload_n hx hb dX0_finding_4 rfl (lv_at hl 1 rfl) ?_
  refine lv_dup2_11 hx hb dX0_finding_5 rfl rfl ?_
  refine ck_ldF S hK hP (j) (by omega) rfl dX0_finding_6 ?_
  refine lv_iconst (v := 1) hx hb dX0_finding_7 (by decide) ?_
  refine lv_iadd hx hb dX0_finding_8 ?_
  refine ck_stF S hK hP hS (fun _ h => h) (j) (by omega) (p_fnd (x 4) j) (fun i hi => by simp only [p_fnd, upd]; grind) rfl dX0_finding_9 (fun H locs hP hS => ?_)
  refine lv_ldc (v := (-1000001)) hx hb hown (hts _ q460) dX0_finding_10 ?_
  refine lv_iload_n hx hb dX0_finding_12 rfl (lv_at hl 1 rfl) ?_
  refine lv_isub hx hb dX0_finding_13 ?_
  exact kk_iretW S hr hlk hS (hP) (rfl) dX0_finding_14
set_option maxHeartbeats 4000000 in
set_option maxRecDepth 100000 in
theorem k0_isCask (l : Launch) (t : CT) (r : Rw) (x : Nat → Rw) (v : Int32) (b : Nat) (hV : pV b r) : Met l yX0_isCask (ws_ yX0_isCask cX0_isCask 2 (some .boolean)) (rmF 1) (va_Pc [.ref (t.2.1 0), .int v] (fun U => cK t U ∧ cX t r x U.heap)) (kR (some (.int (b2i (0 ≤ v ∧ v < r 0))))) 0 0 (fun _ => False) := by
  refine kk_start (by decide) (Nat.le_of_ble_eq_true rfl) ?_
  intro p e s m below meth c S hr hlk hin hB ls hl
  obtain ⟨hK, hP⟩ := hB
  have hx := S.1
  have hb := S.2.1
  have hown : s.vm.findClass RX0 = some m.cls := S.2.2.2.1
  have hts := S.2.2.2.2
  have hl : lv_has ls 2 [(0, .ref (t.2.1 0)), (1, .int (v))] := hl
  have hn := hV.n.1
  have hn8 := hV.n.2
  refine lv_iload_n hx hb dX0_isCask_0 rfl (lv_at hl 1 rfl) ?_
  refine lv_iconst (v := 0) hx hb dX0_isCask_1 (by decide) ?_
  refine lv_aload_n hx hb dX0_isCask_2 rfl (lv_at hl 0 rfl) ?_
  refine cg_d S hK hP dX0_isCask_3 ?_
  refine cd_casks S hK hP dX0_isCask_6 ?_
  refine lv_iconst (v := 1) hx hb dX0_isCask_9 (by decide) ?_
  refine lv_isub hx hb dX0_isCask_10 ?_
  refine cc_in S (rm_ok (Nat.le_of_ble_eq_true rfl)) hl.1 (Nat.le_of_ble_eq_true rfl) dX0_isCask_11 ?_
  exact kk_zretR (ty := .boolean) S hr hlk rfl rfl (by rw [hn]; exact isCask_iff hn8) dX0_isCask_14
section CC
variable {p : Program} {l : Launch} {e : Env} {R : Room} {s : State} {m : MethodId} {args : Array Value} {below : List Frame} {meth : Method} {c : Code} {H H0 : Heap} {locs : List Loc} {cells slots : Nat} {Q : State → Prop}
variable {cc : ByteArray} {pc nL : Nat} {ls : Array Slot} {rest : List Value} {t : CT} {r : Rw} {x : Nat → Rw}
theorem cc_caskOf (S : CallFix p m c cc nL s args lw_all RX0) (hK : cK t s) (hP : cX t r x H) (hR : kRm R 1 cells slots) (hsz : ls.size = nL) (k : Nat) (b : Nat) (hk : k < 8) (hV : pV b r) {i0 : Int32} (e0 : i0 = nI k) (hrest : (rest.map fun v => v.category).sum ≤ 8) (hdg : decode cc pc = .ok (.invokevirtual 118, 3)) (kk : W p l e R s m args below meth c H locs cells slots Q (F0 m (pc + 3) ls (.ref (t.2.1 (600 + (8 * pK r k + k))) :: rest))) : W p l e R s m args below meth c H locs cells slots Q (F0 m pc ls (.int i0 :: .ref (t.2.1 0) :: rest)) := by
  subst e0
  exact kk_Ra (W.runV (As := [.int (nI k)]) (rest := rest) S (k0_caskOf l t r x k b hk hV) (cwV 1 S.2.2.2.2 (lw_V q499 q501 qs4 q101 q502) rfl rfl rfl (by decide +kernel) ⟨hR.1, by have := hR.2.1; show 8 + (2 + 11) + 38 * 0 ≤ R.locals; omega⟩) ⟨c_blind, c_recv hK hP, c_pre hK hP⟩ rfl rfl hsz rfl (lv_room hrest) hdg ⟨hR.2.2.1, hR.2.2.2⟩) kk
theorem cc_finding (S : CallFix p m c cc nL s args lw_all RX0) (hK : cK t s) (hP : cX t r x H) (hS : va_S (cA t) H0 H locs) (hR : kRm R 1 cells slots) (hsz : ls.size = nL) (j : Nat) (hj : j < 7) {i0 : Int32} (e0 : i0 = nI j) (hrest : (rest.map fun v => v.category).sum ≤ 8) (hdg : decode cc pc = .ok (.invokevirtual 116, 3)) (kk : ∀ (H1 : Heap) (locs1 : List Loc), cX t (r) (va_up x 4 (p_fnd (x 4) j)) H1 → va_S (cA t) H0 H1 locs1 → W p l e R s m args below meth c H1 locs1 cells slots Q (F0 m (pc + 3) ls (.int (fnd j) :: rest))) : W p l e R s m args below meth c H locs cells slots Q (F0 m pc ls (.int i0 :: .ref (t.2.1 0) :: rest)) := by
  subst e0
  exact kk_Wi (W.runV (As := [.int (nI j)]) (rest := rest) S (k0_finding l t r x j hj) (cwV 1 S.2.2.2.2 (lw_V q456 q458 qs2 q101 q459) rfl rfl rfl (by decide +kernel) ⟨hR.1, by have := hR.2.1; show 8 + (2 + 11) + 38 * 0 ≤ R.locals; omega⟩) ⟨c_blind, c_recv hK hP, c_pre hK hP⟩ rfl rfl hsz rfl (lv_room hrest) hdg ⟨hR.2.2.1, hR.2.2.2⟩) hS (fun _ h => h) (fun _ h => h) (fun H1 locs1 hB _ _ hS => kk H1 locs1 hB hS)
theorem cc_isCask (S : CallFix p m c cc nL s args lw_all RX0) (hK : cK t s) (hP : cX t r x H) (hR : kRm R 2 cells slots) (hsz : ls.size = nL) {v : Int32} (b : Nat) (hV : pV b r) (hrest : (rest.map fun v => v.category).sum ≤ 8) (hdg : decode cc pc = .ok (.invokevirtual 177, 3)) (kk : W p l e R s m args below meth c H locs cells slots Q (F0 m (pc + 3) ls (.int (b2i (0 ≤ v ∧ v < r 0)) :: rest))) : W p l e R s m args below meth c H locs cells slots Q (F0 m pc ls (.int v :: .ref (t.2.1 0) :: rest)) := by
  exact kk_Ri (W.runV (As := [.int v]) (rest := rest) S (k0_isCask l t r x v b hV) (cwV 1 S.2.2.2.2 (lw_V q495 q497 qs3 q101 q498) rfl rfl rfl (by decide +kernel) ⟨hR.1, by have := hR.2.1; show 8 + (2 + 11) + 38 * 1 ≤ R.locals; omega⟩) ⟨c_blind, c_recv hK hP, c_pre hK hP⟩ rfl rfl hsz rfl (lv_room hrest) hdg ⟨hR.2.2.1, hR.2.2.2⟩) kk
end CC
set_option maxHeartbeats 4000000 in
set_option maxRecDepth 100000 in
theorem k0_orNone (l : Launch) (t : CT) (r : Rw) (x : Nat → Rw) (v : Int32) : Met l yX0_orNone (ws_ yX0_orNone cX0_orNone 2 (some .int)) (rmF 1) (va_Pc [.ref (t.2.1 0), .int v] (fun U => cK t U ∧ cX t r x U.heap)) (kW (some (.int (if v = -1 then fnd 3 else v))) (cX t (r) (if v = -1 then va_up x 4 (p_fnd (x 4) 3) else x)) (cA t)) 0 0 (cA t) := by
  refine kk_start (by decide) (Nat.le_of_ble_eq_true rfl) ?_
  intro p e s m below meth c S hr hlk hin hB ls hl
  obtain ⟨hK, hP⟩ := hB
  have hx := S.1
  have hb := S.2.1
  have hown : s.vm.findClass RX0 = some m.cls := S.2.2.2.1
  have hts := S.2.2.2.2
  have hS : va_S (cA t) s.heap s.heap [] := va_S.rf
  have hl : lv_has ls 2 [(0, .ref (t.2.1 0)), (1, .int (v))] := hl
  refine lv_iload_n hx hb dX0_orNone_0 rfl (lv_at hl 1 rfl) ?_
  refine lv_iconst (v := (-1)) hx hb dX0_orNone_1 (by decide) ?_
  refine lv_icmp_ne (tgt := 13) hx hb dX0_orNone_2 (by decide) (fun c_2 => ?_) (fun c_2 => ?_)
  · skip
    refine lv_iload_n hx hb dX0_orNone_13 rfl (lv_at hl 1 rfl) ?_
    exact kk_iretW S hr hlk hS (by rw [if_neg (by grind)]; exact hP) (by rw [if_neg (by grind)]) dX0_orNone_14
  · skip
    refine lv_aload_n hx hb dX0_orNone_5 rfl (lv_at hl 0 rfl) ?_
    refine lv_iconst (v := 3) hx hb dX0_orNone_6 (by decide) ?_
    refine cc_finding S hK hP hS (rm_ok (Nat.le_of_ble_eq_true rfl)) hl.1 (3) (by omega) rfl (Nat.le_of_ble_eq_true rfl) dX0_orNone_7 (fun H locs hP hS => ?_)
    refine lv_goto (tgt := 14) hx hb dX0_orNone_10 (by decide) ?_
    exact kk_iretW S hr hlk hS (by rw [if_pos (by grind)]; exact hP) (by rw [if_pos (by grind)]) dX0_orNone_14
set_option maxHeartbeats 4000000 in
set_option maxRecDepth 100000 in
theorem k0_loudOf (l : Launch) (t : CT) (r : Rw) (x : Nat → Rw) (k : Nat) (b : Nat) (hk : k < 8) (hV : pV b r) : Met l yX0_loudOf (ws_ yX0_loudOf cX0_loudOf 3 (some .int)) (rmF 5) (va_Pc [.ref (t.2.1 0), .int (nI k)] (fun U => cK t U ∧ cX t r x U.heap)) (kR (some (.int (p_loud r k)))) 0 0 (fun _ => False) := by
  refine kk_start (by decide) (Nat.le_of_ble_eq_true rfl) ?_
  intro p e s m below meth c S hr hlk hin hB ls hl
  obtain ⟨hK, hP⟩ := hB
  have hx := S.1
  have hb := S.2.1
  have hown : s.vm.findClass RX0 = some m.cls := S.2.2.2.1
  have hts := S.2.2.2.2
  have hl : lv_has ls 3 [(0, .ref (t.2.1 0)), (1, .int ((nI k)))] := hl
  refine lv_aload_n hx hb dX0_loudOf_0 rfl (lv_at hl 0 rfl) ?_
  refine lv_iload_n hx hb dX0_loudOf_1 rfl (lv_at hl 1 rfl) ?_
  refine cc_caskOf S hK hP (rm_ok (Nat.le_of_ble_eq_true rfl)) hl.1 (k) (b) (by omega) hV rfl (Nat.le_of_ble_eq_true rfl) dX0_loudOf_2 ?_
  refine lv_astore_n (lv' := [(2, .ref (t.2.1 (600 + (8 * pK r k + k)))), (0, .ref (t.2.1 0)), (1, .int ((nI k)))]) hx hb dX0_loudOf_5 rfl hl (by decide) rfl (fun ls hl => ?_)
  refine lv_aload_n hx hb dX0_loudOf_6 rfl (lv_at hl 0 rfl) ?_
  refine ci_loud S hK hP (rm_ok (Nat.le_of_ble_eq_true rfl)) hl.1 (k) (by omega) b hV (Nat.le_of_ble_eq_true rfl) dX0_loudOf_7 ?_
  exact kk_iretR S hr hlk rfl rfl (rfl) dX0_loudOf_12
set_option maxHeartbeats 4000000 in
set_option maxRecDepth 100000 in
theorem k0_isTooLoud (l : Launch) (t : CT) (r : Rw) (x : Nat → Rw) (k : Nat) (b : Nat) (hk : k < 8) (hV : pV b r) : Met l yX0_isTooLoud (ws_ yX0_isTooLoud cX0_isTooLoud 3 (some .boolean)) (rmF 5) (va_Pc [.ref (t.2.1 0), .int (nI k)] (fun U => cK t U ∧ cX t r x U.heap)) (kR (some (.int (b2i (p_over r k = true))))) 0 0 (fun _ => False) := by
  refine kk_start (by decide) (Nat.le_of_ble_eq_true rfl) ?_
  intro p e s m below meth c S hr hlk hin hB ls hl
  obtain ⟨hK, hP⟩ := hB
  have hx := S.1
  have hb := S.2.1
  have hown : s.vm.findClass RX0 = some m.cls := S.2.2.2.1
  have hts := S.2.2.2.2
  have hl : lv_has ls 3 [(0, .ref (t.2.1 0)), (1, .int ((nI k)))] := hl
  refine lv_aload_n hx hb dX0_isTooLoud_0 rfl (lv_at hl 0 rfl) ?_
  refine lv_iload_n hx hb dX0_isTooLoud_1 rfl (lv_at hl 1 rfl) ?_
  refine cc_caskOf S hK hP (rm_ok (Nat.le_of_ble_eq_true rfl)) hl.1 (k) (b) (by omega) hV rfl (Nat.le_of_ble_eq_true rfl) dX0_isTooLoud_2 ?_
  refine lv_astore_n (lv' := [(2, .ref (t.2.1 (600 + (8 * pK r k + k)))), (0, .ref (t.2.1 0)), (1, .int ((nI k)))]) hx hb dX0_isTooLoud_5 rfl hl (by decide) rfl (fun ls hl => ?_)
  refine lv_aload_n hx hb dX0_isTooLoud_6 rfl (lv_at hl 0 rfl) ?_
  refine ci_loud S hK hP (rm_ok (Nat.le_of_ble_eq_true rfl)) hl.1 (k) (by omega) b hV (Nat.le_of_ble_eq_true rfl) dX0_isTooLoud_7 ?_
  refine lv_aload_n hx hb dX0_isTooLoud_12 rfl (lv_at hl 0 rfl) ?_
  refine ci_bears S hK hP (rm_ok (Nat.le_of_ble_eq_true rfl)) hl.1 (k) (by omega) b hV (Nat.le_of_ble_eq_true rfl) dX0_isTooLoud_13 ?_
  refine lv_icmp_le (tgt := 25) hx hb dX0_isTooLoud_18 (by decide) (fun c_18 => ?_) (fun c_18 => ?_)
  · skip
    refine lv_iconst (v := 0) hx hb dX0_isTooLoud_25 (by decide) ?_
    exact kk_zfR S hr hlk rfl rfl (p_ov0 (by grind)) dX0_isTooLoud_26
  · skip
    refine lv_iconst (v := 1) hx hb dX0_isTooLoud_21 (by decide) ?_
    refine lv_goto (tgt := 26) hx hb dX0_isTooLoud_22 (by decide) ?_
    exact kk_ztR S hr hlk rfl rfl (p_ov1 (by grind)) dX0_isTooLoud_26
section CC
variable {p : Program} {l : Launch} {e : Env} {R : Room} {s : State} {m : MethodId} {args : Array Value} {below : List Frame} {meth : Method} {c : Code} {H H0 : Heap} {locs : List Loc} {cells slots : Nat} {Q : State → Prop}
variable {cc : ByteArray} {pc nL : Nat} {ls : Array Slot} {rest : List Value} {t : CT} {r : Rw} {x : Nat → Rw}
theorem cc_orNone (S : CallFix p m c cc nL s args lw_all RX0) (hK : cK t s) (hP : cX t r x H) (hS : va_S (cA t) H0 H locs) (hR : kRm R 2 cells slots) (hsz : ls.size = nL) {v : Int32} (hrest : (rest.map fun v => v.category).sum ≤ 8) (hdg : decode cc pc = .ok (.invokevirtual 245, 3)) (kk : ∀ (H1 : Heap) (locs1 : List Loc), cX t (r) (if v = -1 then va_up x 4 (p_fnd (x 4) 3) else x) H1 → va_S (cA t) H0 H1 locs1 → W p l e R s m args below meth c H1 locs1 cells slots Q (F0 m (pc + 3) ls (.int (if v = -1 then fnd 3 else v) :: rest))) : W p l e R s m args below meth c H locs cells slots Q (F0 m pc ls (.int v :: .ref (t.2.1 0) :: rest)) := by
  exact kk_Wi (W.runV (As := [.int v]) (rest := rest) S (k0_orNone l t r x v) (cwV 1 S.2.2.2.2 (lw_V q840 q842 qs19 q101 q843) rfl rfl rfl (by decide +kernel) ⟨hR.1, by have := hR.2.1; show 8 + (2 + 11) + 38 * 1 ≤ R.locals; omega⟩) ⟨c_blind, c_recv hK hP, c_pre hK hP⟩ rfl rfl hsz rfl (lv_room hrest) hdg ⟨hR.2.2.1, hR.2.2.2⟩) hS (fun _ h => h) (fun _ h => h) (fun H1 locs1 hB _ _ hS => kk H1 locs1 hB hS)
theorem cc_loudOf (S : CallFix p m c cc nL s args lw_all RX0) (hK : cK t s) (hP : cX t r x H) (hR : kRm R 6 cells slots) (hsz : ls.size = nL) (k : Nat) (b : Nat) (hk : k < 8) (hV : pV b r) {i0 : Int32} (e0 : i0 = nI k) (hrest : (rest.map fun v => v.category).sum ≤ 8) (hdg : decode cc pc = .ok (.invokevirtual 189, 3)) (kk : W p l e R s m args below meth c H locs cells slots Q (F0 m (pc + 3) ls (.int (p_loud r k) :: rest))) : W p l e R s m args below meth c H locs cells slots Q (F0 m pc ls (.int i0 :: .ref (t.2.1 0) :: rest)) := by
  subst e0
  exact kk_Ri (W.runV (As := [.int (nI k)]) (rest := rest) S (k0_loudOf l t r x k b hk hV) (cwV 1 S.2.2.2.2 (lw_V q651 q653 qs5 q101 q654) rfl rfl rfl (by decide +kernel) ⟨hR.1, by have := hR.2.1; show 8 + (3 + 11) + 38 * 5 ≤ R.locals; omega⟩) ⟨c_blind, c_recv hK hP, c_pre hK hP⟩ rfl rfl hsz rfl (lv_room hrest) hdg ⟨hR.2.2.1, hR.2.2.2⟩) kk
theorem cc_isTooLoud (S : CallFix p m c cc nL s args lw_all RX0) (hK : cK t s) (hP : cX t r x H) (hR : kRm R 6 cells slots) (hsz : ls.size = nL) (k : Nat) (b : Nat) (hk : k < 8) (hV : pV b r) {i0 : Int32} (e0 : i0 = nI k) (hrest : (rest.map fun v => v.category).sum ≤ 8) (hdg : decode cc pc = .ok (.invokevirtual 131, 3)) (kk : W p l e R s m args below meth c H locs cells slots Q (F0 m (pc + 3) ls (.int (b2i (p_over r k = true)) :: rest))) : W p l e R s m args below meth c H locs cells slots Q (F0 m pc ls (.int i0 :: .ref (t.2.1 0) :: rest)) := by
  subst e0
  exact kk_Ri (W.runV (As := [.int (nI k)]) (rest := rest) S (k0_isTooLoud l t r x k b hk hV) (cwV 1 S.2.2.2.2 (lw_V q741 q743 qs11 q101 q744) rfl rfl rfl (by decide +kernel) ⟨hR.1, by have := hR.2.1; show 8 + (3 + 11) + 38 * 5 ≤ R.locals; omega⟩) ⟨c_blind, c_recv hK hP, c_pre hK hP⟩ rfl rfl hsz rfl (lv_room hrest) hdg ⟨hR.2.2.1, hR.2.2.2⟩) kk
end CC
section CC
variable {p : Program} {l : Launch} {e : Env} {R : Room} {s : State} {m : MethodId} {args : Array Value} {below : List Frame} {meth : Method} {c : Code} {H H0 : Heap} {locs : List Loc} {cells slots : Nat} {Q : State → Prop}
variable {cc : ByteArray} {pc nL : Nat} {ls : Array Slot} {rest : List Value} {t : CT} {r : Rw} {x : Nat → Rw}
theorem cc_orNoneO (S : CallFix p m c cc nL s args lw_all RX0) (hK : cK t s) (hP : cX t r x H) (hS : va_S (cA t) H0 H locs) (hR : kRm R 2 cells slots) (hsz : ls.size = nL) {o : Option Nat} (ho : ∀ k, o = some k → k < 2 ^ 31) (hrest : (rest.map fun v => v.category).sum ≤ 8) (hdg : decode cc pc = .ok (.invokevirtual 245, 3)) (kk : ∀ (H1 : Heap) (locs1 : List Loc), cX t r (fx x (oU o r).2.2) H1 → va_S (cA t) H0 H1 locs1 → W p l e R s m args below meth c H1 locs1 cells slots Q (F0 m (pc + 3) ls (.int (oU o r).1 :: rest))) : W p l e R s m args below meth c H locs cells slots Q (F0 m pc ls (.int (oi o) :: .ref (t.2.1 0) :: rest)) := by
  refine cc_orNone S hK hP hS hR hsz hrest hdg (fun H1 locs1 hP hS => ?_)
  cases o with
  | none =>
    rw [if_pos (show oi none = -1 from rfl)] at hP ⊢
    exact kk H1 locs1 hP hS
  | some k =>
    have hk := nI_pos (ho k rfl)
    have hk1 : ¬ oi (some k) = -1 := fun z => hk (by rw [show nI k = -1 from z]; decide)
    rw [if_neg hk1] at hP ⊢
    exact kk H1 locs1 hP hS
end CC
set_option maxHeartbeats 4000000 in
set_option maxRecDepth 100000 in
theorem k0_nextToBurst (l : Launch) (t : CT) (r : Rw) (x : Nat → Rw) (b : Nat) (hV : pV b r) : Met l yX0_nextToBurst (ws_ yX0_nextToBurst cX0_nextToBurst 2 (some .int)) (rmF 6) (va_Pc [.ref (t.2.1 0)] (fun U => cK t U ∧ cX t r x U.heap)) (kR (some (.int (oi (p_str r))))) 0 0 (fun _ => False) := by
  refine kk_start (by decide) (Nat.le_of_ble_eq_true rfl) ?_
  intro p e s m below meth c S hr hlk hin hB ls hl
  obtain ⟨hK, hP⟩ := hB
  have hx := S.1
  have hb := S.2.1
  have hown : s.vm.findClass RX0 = some m.cls := S.2.2.2.1
  have hts := S.2.2.2.2
  have hl : lv_has ls 2 [(0, .ref (t.2.1 0))] := hl
  have hn := hV.n.1
  have hn8 := hV.n.2
  refine lv_iconst (v := 0) hx hb dX0_nextToBurst_0 (by decide) ?_
  refine lv_istore_n (lv' := [(1, .int (0)), (0, .ref (t.2.1 0))]) hx hb dX0_nextToBurst_1 rfl hl (by decide) rfl (fun ls hl => ?_)
  have lp_2 : ∀ (j k : Nat) (ls : Array Slot), k + j = pN r → (ffs (p_over r) j k = p_str r) → lv_has ls 2 [(0, .ref (t.2.1 0)), (1, .int ((nI k)))] → W p l e (rmF 6) s m ([.ref (t.2.1 0)] : List Value).toArray below meth c s.heap [] 0 0 (MQ below (kR (some (.int (oi (p_str r))))) ([.ref (t.2.1 0)] : List Value).toArray s 0 0 (fun _ => False)) (F0 m 2 ls []) := by
    intro j
    induction j with
    | zero =>
      intro k  ls hkj he hl
      refine lv_iload_n hx hb dX0_nextToBurst_2 rfl (lv_at hl 1 rfl) ?_
      refine lv_aload_n hx hb dX0_nextToBurst_3 rfl (lv_at hl 0 rfl) ?_
      refine cg_d S hK hP dX0_nextToBurst_4 ?_
      refine cd_casks S hK hP dX0_nextToBurst_7 ?_
      refine kb_ge_n (tgt := 27) (a := k) (b := (pN r)) S rfl hn (by omega) (by omega) dX0_nextToBurst_10 (by decide) (fun c_10 => ?_) (fun c_10 => ?_)
      · skip
        refine lv_iload_n hx hb dX0_nextToBurst_27 rfl (lv_at hl 1 rfl) ?_
        refine lv_aload_n hx hb dX0_nextToBurst_28 rfl (lv_at hl 0 rfl) ?_
        refine cg_d S hK hP dX0_nextToBurst_29 ?_
        refine cd_casks S hK hP dX0_nextToBurst_32 ?_
        refine kb_ge_n (tgt := 42) (a := k) (b := (pN r)) S rfl hn (by omega) (by omega) dX0_nextToBurst_35 (by decide) (fun c_35 => ?_) (fun c_35 => ?_)
        · skip
          refine lv_iconst (v := (-1)) hx hb dX0_nextToBurst_42 (by decide) ?_
          exact kk_iretR S hr hlk rfl rfl (by first | (rw [← he]; rfl) | (rw [← he, ffs, if_pos c_18]; rfl)) dX0_nextToBurst_43
        · exact absurd c_35 (by omega)
      · exact absurd c_10 (by omega)
    | succ j ih =>
      intro k  ls hkj he hl
      have ih_2 := ih
      refine lv_iload_n hx hb dX0_nextToBurst_2 rfl (lv_at hl 1 rfl) ?_
      refine lv_aload_n hx hb dX0_nextToBurst_3 rfl (lv_at hl 0 rfl) ?_
      refine cg_d S hK hP dX0_nextToBurst_4 ?_
      refine cd_casks S hK hP dX0_nextToBurst_7 ?_
      refine kb_ge_n (tgt := 27) (a := k) (b := (pN r)) S rfl hn (by omega) (by omega) dX0_nextToBurst_10 (by decide) (fun c_10 => ?_) (fun c_10 => ?_)
      · exact absurd c_10 (by omega)
      · skip
        refine lv_aload_n hx hb dX0_nextToBurst_13 rfl (lv_at hl 0 rfl) ?_
        refine lv_iload_n hx hb dX0_nextToBurst_14 rfl (lv_at hl 1 rfl) ?_
        refine cc_isTooLoud S hK hP (rm_ok (Nat.le_of_ble_eq_true rfl)) hl.1 (k) (b) (by omega) hV rfl (Nat.le_of_ble_eq_true rfl) dX0_nextToBurst_15 ?_
        refine kb_ifne (tgt := 27) S dX0_nextToBurst_18 (by decide) (fun c_18 => ?_) (fun c_18 => ?_)
        · skip
          refine lv_iload_n hx hb dX0_nextToBurst_27 rfl (lv_at hl 1 rfl) ?_
          refine lv_aload_n hx hb dX0_nextToBurst_28 rfl (lv_at hl 0 rfl) ?_
          refine cg_d S hK hP dX0_nextToBurst_29 ?_
          refine cd_casks S hK hP dX0_nextToBurst_32 ?_
          refine kb_ge_n (tgt := 42) (a := k) (b := (pN r)) S rfl hn (by omega) (by omega) dX0_nextToBurst_35 (by decide) (fun c_35 => ?_) (fun c_35 => ?_)
          · exact absurd c_35 (by omega)
          · skip
            refine lv_iload_n hx hb dX0_nextToBurst_38 rfl (lv_at hl 1 rfl) ?_
            refine lv_goto (tgt := 43) hx hb dX0_nextToBurst_39 (by decide) ?_
            exact kk_iretR S hr hlk rfl rfl (by first | (rw [← he]; rfl) | (rw [← he, ffs, if_pos c_18]; rfl)) dX0_nextToBurst_43
        · skip
          refine lv_iinc (v := (nI (k + 1))) (lv' := [(1, .int ((nI (k + 1)))), (0, .ref (t.2.1 0))]) hx hb dX0_nextToBurst_21 hl (k := 1) rfl (nn_1 rfl) (by decide) rfl (fun ls hl => ?_)
          refine lv_goto (tgt := 2) hx hb dX0_nextToBurst_24 (by decide) ?_
          exact ih_2 ((k + 1)) ls (by omega) (by rw [ffs, if_neg c_18] at he; exact he) (lv_sub hl [1, 0] rfl)
  exact lp_2 (pN r) 0 ls (by omega) (rfl) (lv_sub hl [1, 0] rfl)
section CC
variable {p : Program} {l : Launch} {e : Env} {R : Room} {s : State} {m : MethodId} {args : Array Value} {below : List Frame} {meth : Method} {c : Code} {H H0 : Heap} {locs : List Loc} {cells slots : Nat} {Q : State → Prop}
variable {cc : ByteArray} {pc nL : Nat} {ls : Array Slot} {rest : List Value} {t : CT} {r : Rw} {x : Nat → Rw}
theorem cc_nextToBurst (S : CallFix p m c cc nL s args lw_all RX0) (hK : cK t s) (hP : cX t r x H) (hR : kRm R 7 cells slots) (hsz : ls.size = nL) (b : Nat) (hV : pV b r) (hrest : (rest.map fun v => v.category).sum ≤ 8) (hdg : decode cc pc = .ok (.invokevirtual 146, 3)) (kk : W p l e R s m args below meth c H locs cells slots Q (F0 m (pc + 3) ls (.int (oi (p_str r)) :: rest))) : W p l e R s m args below meth c H locs cells slots Q (F0 m pc ls (.ref (t.2.1 0) :: rest)) := by
  exact kk_Ri (W.runV (As := []) (rest := rest) S (k0_nextToBurst l t r x b hV) (cwV 0 S.2.2.2.2 (lw_V q737 q739 qs10 q101 q740) rfl rfl rfl (by decide +kernel) ⟨hR.1, by have := hR.2.1; show 8 + (2 + 11) + 38 * 6 ≤ R.locals; omega⟩) ⟨c_blind, c_recv hK hP, c_pre hK hP⟩ rfl rfl hsz rfl (lv_room hrest) hdg ⟨hR.2.2.1, hR.2.2.2⟩) kk
end CC
set_option maxHeartbeats 4000000 in
set_option maxRecDepth 100000 in
theorem k0_passes_2 (l : Launch) (t : CT) (r : Rw) (x : Nat → Rw) (b : Nat) (hV : pV b r) (hb : b < 2 ^ 30) : Met l yX0_passes_2 (ws_ yX0_passes_2 cX0_passes_2 3 none) (rmF 7) (va_Pc [.ref (t.2.1 0)] (fun U => cK t U ∧ cX t r x U.heap)) (kW none (cX t (p_day r) (x)) (cA t)) 0 0 (cA t) := by
  refine kk_start (by decide) (Nat.le_of_ble_eq_true rfl) ?_
  intro p e s m below meth c S hr hlk hin hB ls hl
  obtain ⟨hK, hP⟩ := hB
  have hx := S.1
  have hb := S.2.1
  have hown : s.vm.findClass RX0 = some m.cls := S.2.2.2.1
  have hts := S.2.2.2.2
  have hS : va_S (cA t) s.heap s.heap [] := va_S.rf
  have hl : lv_has ls 3 [(0, .ref (t.2.1 0))] := hl
  have hn := hV.n.1
  have hn8 := hV.n.2
  have hd := (hV.d (by omega)).1
  have hdb := (hV.d (by omega)).2
  refine lv_aload_n hx hb dX0_passes_2_0 rfl (lv_at hl 0 rfl) ?_
  refine cg_d S hK hP dX0_passes_2_1 ?_
  refine d0_storms S hK hP hS (rm_ok (Nat.le_of_ble_eq_true rfl)) hl.1 (b) hV (by omega) (Nat.le_of_ble_eq_true rfl) dX0_passes_2_4 (fun H locs hP hS => ?_)
  have hk0 := kp_s0 hV
  refine lv_iconst (v := 0) hx hb dX0_passes_2_7 (by decide) ?_
  refine lv_istore_n (lv' := [(1, .int (0)), (0, .ref (t.2.1 0))]) hx hb dX0_passes_2_8 rfl hl (by decide) rfl (fun ls hl => ?_)
  have lp_9 : ∀ (j k : Nat) (r1 : Rw) (H : Heap) (locs : List Loc) (ls : Array Slot), k + j = pN r → (lp (fun k q => p_ag (p_lk q k) k) j k r1 = p_s1 r) → (kp r r1) → cX t (r1) (x) H → va_S (cA t) s.heap H locs → lv_has ls 3 [(0, .ref (t.2.1 0)), (1, .int ((nI k)))] → W p l e (rmF 7) s m ([.ref (t.2.1 0)] : List Value).toArray below meth c H locs 0 0 (MQ below (kW none (cX t (p_day r) (x)) (cA t)) ([.ref (t.2.1 0)] : List Value).toArray s 0 0 (cA t)) (F0 m 9 ls []) := by
    intro j
    induction j with
    | zero =>
      intro k  r1 H locs ls hkj he hk1 hP hS hl
      refine lv_iload_n hx hb dX0_passes_2_9 rfl (lv_at hl 1 rfl) ?_
      refine lv_aload_n hx hb dX0_passes_2_10 rfl (lv_at hl 0 rfl) ?_
      refine cg_d S hK hP dX0_passes_2_11 ?_
      refine cd_casks S hK hP dX0_passes_2_14 ?_
      refine kb_ge_n (tgt := 42) (a := k) (b := (pN r)) S rfl ((hk1 0 (by unfold pm; omega)).trans hn) (by omega) (by omega) dX0_passes_2_17 (by decide) (fun c_17 => ?_) (fun c_17 => ?_)
      · skip
        have he0 : r1 = p_s1 r := he
        subst he0
        have hk1s := kp_s1 hV
        have hn1 : pN (p_s1 r) = pN r := kp.n hk1s
        refine lv_aload_n hx hb dX0_passes_2_42 rfl (lv_at hl 0 rfl) ?_
        refine cg_d S hK hP dX0_passes_2_43 ?_
        refine d0_cancel S hK hP hS (rm_ok (Nat.le_of_ble_eq_true rfl)) hl.1 (b) (hV.kp (kp_s1 hV)) (Nat.le_of_ble_eq_true rfl) dX0_passes_2_46 (fun H locs hP hS => ?_)
        have e2 : p_cans (pN (p_s1 r)) (p_s1 r) = p_s2 r := by rw [hn1, p_s2_cans]
        rw [e2] at hP
        refine lv_aload_n hx hb dX0_passes_2_49 rfl (lv_at hl 0 rfl) ?_
        refine cc_nextToBurst S hK hP (rm_ok (Nat.le_of_ble_eq_true rfl)) hl.1 (b) (hV.kp (kp_s2 hV)) (Nat.le_of_ble_eq_true rfl) dX0_passes_2_50 ?_
        refine kb_topo (fun o_1 eo_1 => ?_)
        have hb8 : ∀ i, o_1 = some i → i < 8 := fun i h => p_str_lt (hV.kp (kp_s2 hV)) (eo_1 ▸ h)
        refine lv_istore_n (lv' := [(1, .int ((oi o_1))), (0, .ref (t.2.1 0))]) hx hb dX0_passes_2_53 rfl hl (by decide) rfl (fun ls hl => ?_)
        refine lv_iconst (v := 0) hx hb dX0_passes_2_54 (by decide) ?_
        refine lv_istore_n (lv' := [(2, .int (0)), (1, .int ((oi o_1))), (0, .ref (t.2.1 0))]) hx hb dX0_passes_2_55 rfl hl (by decide) rfl (fun ls hl => ?_)
        have lp_56 : ∀ (j q : Nat) (nx : Option Nat) (r4 : Rw) (H : Heap) (locs : List Loc) (ls : Array Slot), q + j = 8 → (p_bl j r4 = p_s3 r) → (kp r r4) → (nx = p_str r4) → (∀ i, nx = some i → i < 8) → cX t (r4) (x) H → va_S (cA t) s.heap H locs → lv_has ls 3 [(0, .ref (t.2.1 0)), (1, .int ((oi nx))), (2, .int ((nI q)))] → W p l e (rmF 7) s m ([.ref (t.2.1 0)] : List Value).toArray below meth c H locs 0 0 (MQ below (kW none (cX t (p_day r) (x)) (cA t)) ([.ref (t.2.1 0)] : List Value).toArray s 0 0 (cA t)) (F0 m 56 ls []) := by
          intro j
          induction j with
          | zero =>
            intro q nx r4 H locs ls hkj he hk4 hnx hb8 hP hS hl
            refine lv_iload_n hx hb dX0_passes_2_56 rfl (lv_at hl 2 rfl) ?_
            refine lv_bipush (v := 8) hx hb dX0_passes_2_57 (by decide) ?_
            refine kb_ge_n (tgt := 86) (a := q) (b := 8) S rfl rfl (by omega) (by omega) dX0_passes_2_59 (by decide) (fun c_59 => ?_) (fun c_59 => ?_)
            · skip
              have he0 : r4 = p_s3 r := he
              subst he0
              refine lv_aload_n hx hb dX0_passes_2_86 rfl (lv_at hl 0 rfl) ?_
              refine cg_d S hK hP dX0_passes_2_87 ?_
              refine lv_dup hx hb dX0_passes_2_90 rfl ?_
              refine cd_day S hK hP dX0_passes_2_91 ?_
              refine lv_iconst (v := 1) hx hb dX0_passes_2_94 (by decide) ?_
              refine lv_iadd hx hb dX0_passes_2_95 ?_
              refine cdp_day S hK hP hS (fun _ h => h) dX0_passes_2_96 (fun H locs hP hS => ?_)
              exact kk_vretW S hr hlk hS (hP) dX0_passes_2_99
            · exact absurd c_59 (by omega)
          | succ j ih =>
            intro q nx r4 H locs ls hkj he hk4 hnx hb8 hP hS hl
            have ih_56 := ih
            refine lv_iload_n hx hb dX0_passes_2_56 rfl (lv_at hl 2 rfl) ?_
            refine lv_bipush (v := 8) hx hb dX0_passes_2_57 (by decide) ?_
            refine kb_ge_n (tgt := 86) (a := q) (b := 8) S rfl rfl (by omega) (by omega) dX0_passes_2_59 (by decide) (fun c_59 => ?_) (fun c_59 => ?_)
            · exact absurd c_59 (by omega)
            · skip
              refine lv_iload_n hx hb dX0_passes_2_62 rfl (lv_at hl 1 rfl) ?_
              refine lv_iconst (v := (-1)) hx hb dX0_passes_2_63 (by decide) ?_
              refine kb_eq_o (tgt := 86) S dX0_passes_2_64 (by decide) (fun c_64 => ?_) (fun c_64 => ?_) (fun i hi => Nat.lt_trans (hb8 i hi) (by decide))
              · skip
                subst c_64
                have he0 : r4 = p_s3 r := by (have h := he; rw [p_bl, ← hnx] at h; exact h)
                subst he0
                refine lv_aload_n hx hb dX0_passes_2_86 rfl (lv_at hl 0 rfl) ?_
                refine cg_d S hK hP dX0_passes_2_87 ?_
                refine lv_dup hx hb dX0_passes_2_90 rfl ?_
                refine cd_day S hK hP dX0_passes_2_91 ?_
                refine lv_iconst (v := 1) hx hb dX0_passes_2_94 (by decide) ?_
                refine lv_iadd hx hb dX0_passes_2_95 ?_
                refine cdp_day S hK hP hS (fun _ h => h) dX0_passes_2_96 (fun H locs hP hS => ?_)
                exact kk_vretW S hr hlk hS (hP) dX0_passes_2_99
              · skip
                obtain ⟨nx_64, rfl⟩ := c_64
                have hnx_64 := hb8 _ rfl
                refine lv_aload_n hx hb dX0_passes_2_67 rfl (lv_at hl 0 rfl) ?_
                refine cg_d S hK hP dX0_passes_2_68 ?_
                refine lv_iload_n hx hb dX0_passes_2_71 rfl (lv_at hl 1 rfl) ?_
                refine d0_bursts S hK hP hS (rm_ok (Nat.le_of_ble_eq_true rfl)) hl.1 (nx_64) (b) (by omega) (hV.kp hk4) (oi_some _) (Nat.le_of_ble_eq_true rfl) dX0_passes_2_72 (fun H locs hP hS => ?_)
                refine lv_aload_n hx hb dX0_passes_2_75 rfl (lv_at hl 0 rfl) ?_
                refine cc_nextToBurst S hK hP (rm_ok (Nat.le_of_ble_eq_true rfl)) hl.1 (b) (hV.kp (kp_burst hk4 hnx_64 (hV.kp hk4).n.2)) (Nat.le_of_ble_eq_true rfl) dX0_passes_2_76 ?_
                refine kb_topo (fun o_2 eo_2 => ?_)
                have hb8 : ∀ i, o_2 = some i → i < 8 := fun i h => p_str_lt (hV.kp (kp_burst hk4 hnx_64 (hV.kp hk4).n.2)) (eo_2 ▸ h)
                refine lv_istore_n (lv' := [(1, .int ((oi o_2))), (0, .ref (t.2.1 0)), (2, .int ((nI q)))]) hx hb dX0_passes_2_79 rfl hl (by decide) rfl (fun ls hl => ?_)
                refine lv_iinc (v := (nI (q + 1))) (lv' := [(2, .int ((nI (q + 1)))), (1, .int ((oi o_2))), (0, .ref (t.2.1 0))]) hx hb dX0_passes_2_80 hl (k := 2) rfl (nn_1 rfl) (by decide) rfl (fun ls hl => ?_)
                refine lv_goto (tgt := 56) hx hb dX0_passes_2_83 (by decide) ?_
                exact ih_56 ((q + 1)) o_2 _ _ _ ls (by omega) (by have h := he; rw [p_bl, ← hnx] at h; exact h) (kp_burst hk4 hnx_64 (hV.kp hk4).n.2) (eo_2) (hb8) hP hS (lv_sub hl [2, 1, 0] rfl)
        exact lp_56 8 0 o_1 _ _ _ ls (by omega) (rfl) (kp_s2 hV) (eo_1) (hb8) hP hS (lv_sub hl [2, 1, 0] rfl)
      · exact absurd c_17 (by omega)
    | succ j ih =>
      intro k  r1 H locs ls hkj he hk1 hP hS hl
      have ih_9 := ih
      refine lv_iload_n hx hb dX0_passes_2_9 rfl (lv_at hl 1 rfl) ?_
      refine lv_aload_n hx hb dX0_passes_2_10 rfl (lv_at hl 0 rfl) ?_
      refine cg_d S hK hP dX0_passes_2_11 ?_
      refine cd_casks S hK hP dX0_passes_2_14 ?_
      refine kb_ge_n (tgt := 42) (a := k) (b := (pN r)) S rfl ((hk1 0 (by unfold pm; omega)).trans hn) (by omega) (by omega) dX0_passes_2_17 (by decide) (fun c_17 => ?_) (fun c_17 => ?_)
      · exact absurd c_17 (by omega)
      · skip
        refine lv_aload_n hx hb dX0_passes_2_20 rfl (lv_at hl 0 rfl) ?_
        refine cg_d S hK hP dX0_passes_2_21 ?_
        refine lv_iload_n hx hb dX0_passes_2_24 rfl (lv_at hl 1 rfl) ?_
        refine lv_aload_n hx hb dX0_passes_2_25 rfl (lv_at hl 0 rfl) ?_
        refine lv_iload_n hx hb dX0_passes_2_26 rfl (lv_at hl 1 rfl) ?_
        refine cc_caskOf S hK hP (rm_ok (Nat.le_of_ble_eq_true rfl)) hl.1 (k) (b) (by omega) (hV.kp hk1) rfl (Nat.le_of_ble_eq_true rfl) dX0_passes_2_27 ?_
        refine cv_leaks S hK hP (rm_ok (Nat.le_of_ble_eq_true rfl)) hl.1 (k) (by omega) b (hV.kp hk1) (Nat.le_of_ble_eq_true rfl) dX0_passes_2_30 ?_
        refine d0_leaks S hK hP hS (rm_ok (Nat.le_of_ble_eq_true rfl)) hl.1 (k) (by omega) rfl (Nat.le_of_ble_eq_true rfl) dX0_passes_2_33 (fun H locs hP hS => ?_)
        refine lv_iinc (v := (nI (k + 1))) (lv' := [(1, .int ((nI (k + 1)))), (0, .ref (t.2.1 0))]) hx hb dX0_passes_2_36 hl (k := 1) rfl (nn_1 rfl) (by decide) rfl (fun ls hl => ?_)
        refine lv_goto (tgt := 9) hx hb dX0_passes_2_39 (by decide) ?_
        exact ih_9 ((k + 1)) _ _ _ ls (by omega) (by have h := he; rw [lp] at h; exact h) (kp_lkag hk1 (by omega)) hP hS (lv_sub hl [1, 0] rfl)
  exact lp_9 (pN r) 0 _ _ _ ls (by omega) (rfl) (kp_s0 hV) hP hS (lv_sub hl [1, 0] rfl)
section CC
variable {p : Program} {l : Launch} {e : Env} {R : Room} {s : State} {m : MethodId} {args : Array Value} {below : List Frame} {meth : Method} {c : Code} {H H0 : Heap} {locs : List Loc} {cells slots : Nat} {Q : State → Prop}
variable {cc : ByteArray} {pc nL : Nat} {ls : Array Slot} {rest : List Value} {t : CT} {r : Rw} {x : Nat → Rw}
theorem cc_passes_2 (S : CallFix p m c cc nL s args lw_all RX0) (hK : cK t s) (hP : cX t r x H) (hS : va_S (cA t) H0 H locs) (hR : kRm R 8 cells slots) (hsz : ls.size = nL) (b : Nat) (hV : pV b r) (hb : b < 2 ^ 30) (hrest : (rest.map fun v => v.category).sum ≤ 8) (hdg : decode cc pc = .ok (.invokevirtual 156, 3)) (kk : ∀ (H1 : Heap) (locs1 : List Loc), cX t (p_day r) (x) H1 → va_S (cA t) H0 H1 locs1 → W p l e R s m args below meth c H1 locs1 cells slots Q (F0 m (pc + 3) ls (rest))) : W p l e R s m args below meth c H locs cells slots Q (F0 m pc ls (.ref (t.2.1 0) :: rest)) := by
  exact kk_Wv (W.runV (As := []) (rest := rest) S (k0_passes_2 l t r x b hV hb) (cwV 0 S.2.2.2.2 (lw_V q708 q710 qs8 q101 q711) rfl rfl rfl (by decide +kernel) ⟨hR.1, by have := hR.2.1; show 8 + (3 + 11) + 38 * 7 ≤ R.locals; omega⟩) ⟨c_blind, c_recv hK hP, c_pre hK hP⟩ rfl rfl hsz rfl (lv_room hrest) hdg ⟨hR.2.2.1, hR.2.2.2⟩) hS (fun _ h => h) (fun _ h => h) (fun H1 locs1 hB _ _ hS => kk H1 locs1 hB hS)
end CC
set_option maxHeartbeats 4000000 in
set_option maxRecDepth 100000 in
theorem k0_passes (l : Launch) (t : CT) (r : Rw) (x : Nat → Rw) (n : Nat) (b : Nat) (hV : pV b r) (hbn : b + n < 2 ^ 30) : Met l yX0_passes (ws_ yX0_passes cX0_passes 3 none) (rmF 8) (va_Pc [.ref (t.2.1 0), .int (nI n)] (fun U => cK t U ∧ cX t r x U.heap)) (kW none (cX t (p_goes n r) (x)) (cA t)) 0 0 (cA t) := by
  refine kk_start (by decide) (Nat.le_of_ble_eq_true rfl) ?_
  intro p e s m below meth c S hr hlk hin hB ls hl
  obtain ⟨hK, hP⟩ := hB
  have hx := S.1
  have hb := S.2.1
  have hown : s.vm.findClass RX0 = some m.cls := S.2.2.2.1
  have hts := S.2.2.2.2
  have hS : va_S (cA t) s.heap s.heap [] := va_S.rf
  have hl : lv_has ls 3 [(0, .ref (t.2.1 0)), (1, .int ((nI n)))] := hl
  refine lv_iconst (v := 0) hx hb dX0_passes_0 (by decide) ?_
  refine lv_istore_n (lv' := [(2, .int (0)), (0, .ref (t.2.1 0)), (1, .int ((nI n)))]) hx hb dX0_passes_1 rfl hl (by decide) rfl (fun ls hl => ?_)
  have lp_2 : ∀ (j k : Nat) (r1 : Rw) (H : Heap) (locs : List Loc) (ls : Array Slot), k + j = n → (p_goes j r1 = p_goes n r) → (pV (b + k) r1) → cX t (r1) (x) H → va_S (cA t) s.heap H locs → lv_has ls 3 [(0, .ref (t.2.1 0)), (1, .int ((nI n))), (2, .int ((nI k)))] → W p l e (rmF 8) s m ([.ref (t.2.1 0), .int (nI n)] : List Value).toArray below meth c H locs 0 0 (MQ below (kW none (cX t (p_goes n r) (x)) (cA t)) ([.ref (t.2.1 0), .int (nI n)] : List Value).toArray s 0 0 (cA t)) (F0 m 2 ls []) := by
    intro j
    induction j with
    | zero =>
      intro k  r1 H locs ls hkj he hV1 hP hS hl
      refine lv_iload_n hx hb dX0_passes_2 rfl (lv_at hl 2 rfl) ?_
      refine lv_iload_n hx hb dX0_passes_3 rfl (lv_at hl 1 rfl) ?_
      refine kb_ge_n (tgt := 17) (a := k) (b := n) S rfl rfl (by omega) (by omega) dX0_passes_4 (by decide) (fun c_4 => ?_) (fun c_4 => ?_)
      · skip
        exact kk_vretW S hr hlk hS (he ▸ hP) dX0_passes_17
      · exact absurd c_4 (by omega)
    | succ j ih =>
      intro k  r1 H locs ls hkj he hV1 hP hS hl
      have ih_2 := ih
      refine lv_iload_n hx hb dX0_passes_2 rfl (lv_at hl 2 rfl) ?_
      refine lv_iload_n hx hb dX0_passes_3 rfl (lv_at hl 1 rfl) ?_
      refine kb_ge_n (tgt := 17) (a := k) (b := n) S rfl rfl (by omega) (by omega) dX0_passes_4 (by decide) (fun c_4 => ?_) (fun c_4 => ?_)
      · exact absurd c_4 (by omega)
      · skip
        refine lv_aload_n hx hb dX0_passes_7 rfl (lv_at hl 0 rfl) ?_
        refine cc_passes_2 S hK hP hS (rm_ok (Nat.le_of_ble_eq_true rfl)) hl.1 ((b + k)) hV1 (by omega) (Nat.le_of_ble_eq_true rfl) dX0_passes_8 (fun H locs hP hS => ?_)
        refine lv_iinc (v := (nI (k + 1))) (lv' := [(2, .int ((nI (k + 1)))), (0, .ref (t.2.1 0)), (1, .int ((nI n)))]) hx hb dX0_passes_11 hl (k := 2) rfl (nn_1 rfl) (by decide) rfl (fun ls hl => ?_)
        refine lv_goto (tgt := 2) hx hb dX0_passes_14 (by decide) ?_
        exact ih_2 ((k + 1)) _ _ _ ls (by omega) (by have h := he; rw [p_goes] at h; exact h) (pV_day (b := b + k) hV1 (by omega)) hP hS (lv_sub hl [1, 2, 0] rfl)
  exact lp_2 n 0 _ _ _ ls (by omega) (rfl) (hV) hP hS (lv_sub hl [1, 2, 0] rfl)
section CC
variable {p : Program} {l : Launch} {e : Env} {R : Room} {s : State} {m : MethodId} {args : Array Value} {below : List Frame} {meth : Method} {c : Code} {H H0 : Heap} {locs : List Loc} {cells slots : Nat} {Q : State → Prop}
variable {cc : ByteArray} {pc nL : Nat} {ls : Array Slot} {rest : List Value} {t : CT} {r : Rw} {x : Nat → Rw}
theorem cc_passes (S : CallFix p m c cc nL s args lw_all RX0) (hK : cK t s) (hP : cX t r x H) (hS : va_S (cA t) H0 H locs) (hR : kRm R 9 cells slots) (hsz : ls.size = nL) (n : Nat) (b : Nat) (hV : pV b r) (hbn : b + n < 2 ^ 30) {i0 : Int32} (e0 : i0 = nI n) (hrest : (rest.map fun v => v.category).sum ≤ 8) (hdg : decode cc pc = .ok (.invokevirtual 195, 3)) (kk : ∀ (H1 : Heap) (locs1 : List Loc), cX t (p_goes n r) (x) H1 → va_S (cA t) H0 H1 locs1 → W p l e R s m args below meth c H1 locs1 cells slots Q (F0 m (pc + 3) ls (rest))) : W p l e R s m args below meth c H locs cells slots Q (F0 m pc ls (.int i0 :: .ref (t.2.1 0) :: rest)) := by
  subst e0
  exact kk_Wv (W.runV (As := [.int (nI n)]) (rest := rest) S (k0_passes l t r x n b hV hbn) (cwV 1 S.2.2.2.2 (lw_V q704 q706 qs7 q101 q707) rfl rfl rfl (by decide +kernel) ⟨hR.1, by have := hR.2.1; show 8 + (3 + 11) + 38 * 8 ≤ R.locals; omega⟩) ⟨c_blind, c_recv hK hP, c_pre hK hP⟩ rfl rfl hsz rfl (lv_room hrest) hdg ⟨hR.2.2.1, hR.2.2.2⟩) hS (fun _ h => h) (fun _ h => h) (fun H1 locs1 hB _ _ hS => kk H1 locs1 hB hS)
end CC
set_option maxHeartbeats 4000000 in
set_option maxRecDepth 100000 in
theorem k0_goesOn (l : Launch) (t : CT) (r : Rw) (x : Nat → Rw) (n : Nat) (b : Nat) (hV : pV b r) (hbn : b + n < 2 ^ 30) : Met l yX0_goesOn (ws_ yX0_goesOn cX0_goesOn 2 (some .int)) (rmF 9) (va_Pc [.ref (t.2.1 0), .int (nI n)] (fun U => cK t U ∧ cX t r x U.heap)) (kW (some (.int (p_goes n r 3))) (cX t (p_goes n r) (x)) (cA t)) 0 0 (cA t) := by
  refine kk_start (by decide) (Nat.le_of_ble_eq_true rfl) ?_
  intro p e s m below meth c S hr hlk hin hB ls hl
  obtain ⟨hK, hP⟩ := hB
  have hx := S.1
  have hb := S.2.1
  have hown : s.vm.findClass RX0 = some m.cls := S.2.2.2.1
  have hts := S.2.2.2.2
  have hS : va_S (cA t) s.heap s.heap [] := va_S.rf
  have hl : lv_has ls 2 [(0, .ref (t.2.1 0)), (1, .int ((nI n)))] := hl
  refine lv_aload_n hx hb dX0_goesOn_0 rfl (lv_at hl 0 rfl) ?_
  refine lv_iload_n hx hb dX0_goesOn_1 rfl (lv_at hl 1 rfl) ?_
  refine cc_passes S hK hP hS (rm_ok (Nat.le_of_ble_eq_true rfl)) hl.1 (n) (b) hV (by omega) rfl (Nat.le_of_ble_eq_true rfl) dX0_goesOn_2 (fun H locs hP hS => ?_)
  refine lv_aload_n hx hb dX0_goesOn_5 rfl (lv_at hl 0 rfl) ?_
  refine cg_d S hK hP dX0_goesOn_6 ?_
  refine cd_claps S hK hP dX0_goesOn_9 ?_
  exact kk_iretW S hr hlk hS (hP) (rfl) dX0_goesOn_12
section CC
variable {p : Program} {l : Launch} {e : Env} {R : Room} {s : State} {m : MethodId} {args : Array Value} {below : List Frame} {meth : Method} {c : Code} {H H0 : Heap} {locs : List Loc} {cells slots : Nat} {Q : State → Prop}
variable {cc : ByteArray} {pc nL : Nat} {ls : Array Slot} {rest : List Value} {t : CT} {r : Rw} {x : Nat → Rw}
theorem cc_goesOn (S : CallFix p m c cc nL s args lw_all RX0) (hK : cK t s) (hP : cX t r x H) (hS : va_S (cA t) H0 H locs) (hR : kRm R 10 cells slots) (hsz : ls.size = nL) (n : Nat) (b : Nat) (hV : pV b r) (hbn : b + n < 2 ^ 30) {i0 : Int32} (e0 : i0 = nI n) (hrest : (rest.map fun v => v.category).sum ≤ 8) (hdg : decode cc pc = .ok (.invokevirtual 203, 3)) (kk : ∀ (H1 : Heap) (locs1 : List Loc), cX t (p_goes n r) (x) H1 → va_S (cA t) H0 H1 locs1 → W p l e R s m args below meth c H1 locs1 cells slots Q (F0 m (pc + 3) ls (.int (p_goes n r 3) :: rest))) : W p l e R s m args below meth c H locs cells slots Q (F0 m pc ls (.int i0 :: .ref (t.2.1 0) :: rest)) := by
  subst e0
  exact kk_Wi (W.runV (As := [.int (nI n)]) (rest := rest) S (k0_goesOn l t r x n b hV hbn) (cwV 1 S.2.2.2.2 (lw_V q700 q702 qs6 q101 q703) rfl rfl rfl (by decide +kernel) ⟨hR.1, by have := hR.2.1; show 8 + (2 + 11) + 38 * 9 ≤ R.locals; omega⟩) ⟨c_blind, c_recv hK hP, c_pre hK hP⟩ rfl rfl hsz rfl (lv_room hrest) hdg ⟨hR.2.2.1, hR.2.2.2⟩) hS (fun _ h => h) (fun _ h => h) (fun H1 locs1 hB _ _ hS => kk H1 locs1 hB hS)
end CC
set_option maxHeartbeats 4000000 in
set_option maxRecDepth 100000 in
theorem k0_frost (l : Launch) (t : CT) (r : Rw) (x : Nat → Rw) (a : Int32) (v : Int32) : Met l yX0_frost (ws_ yX0_frost cX0_frost 4 (some .int)) (rmF 2) (va_Pc [.ref (t.2.1 0), .int a, .int v] (fun U => cK t U ∧ cX t r x U.heap)) (kW (some (.int ((o_frost r a v).1))) (cX t ((o_frost r a v).2.1) (fx x (o_frost r a v).2.2)) (cA t)) 0 0 (cA t) := by
  refine kk_start (by decide) (Nat.le_of_ble_eq_true rfl) ?_
  intro p e s m below meth c S hr hlk hin hB ls hl
  obtain ⟨hK, hP⟩ := hB
  have hx := S.1
  have hb := S.2.1
  have hown : s.vm.findClass RX0 = some m.cls := S.2.2.2.1
  have hts := S.2.2.2.2
  have hS : va_S (cA t) s.heap s.heap [] := va_S.rf
  have hl : lv_has ls 4 [(0, .ref (t.2.1 0)), (1, .int (a)), (2, .int (v))] := hl
  refine lv_iload_n hx hb dX0_frost_0 rfl (lv_at hl 1 rfl) ?_
  refine cc_isCellar S (rm_ok (Nat.le_of_ble_eq_true rfl)) hl.1 (Nat.le_of_ble_eq_true rfl) dX0_frost_1 ?_
  refine kb_ifeq (tgt := 17) S dX0_frost_4 (by decide) (fun c_4 => ?_) (fun c_4 => ?_)
  · skip
    refine lv_aload_n hx hb dX0_frost_17 rfl (lv_at hl 0 rfl) ?_
    refine lv_iconst (v := 0) hx hb dX0_frost_18 (by decide) ?_
    refine cc_finding S hK hP hS (rm_ok (Nat.le_of_ble_eq_true rfl)) hl.1 (0) (by omega) rfl (Nat.le_of_ble_eq_true rfl) dX0_frost_19 (fun H locs hP hS => ?_)
    have ho : o_frost r a v = (fnd 0, r, some 0) := by first | (simp only [o_frost, c_4, reduceIte, and_self, oF, oK]; done) | (simp [o_frost, oF, oK, fnd, c_4]; done) | (unfold o_frost oF oK; grind)
    exact kk_iretW S hr hlk hS (by rw [ho]; exact hP) (by rw [ho]) dX0_frost_22
  · skip
    obtain ⟨a_, ha_, rfl⟩ := nat_of_lt (n := 6) (rfl) (by omega) c_4
    have hcl_a_ := nI_clamp (n := a_) (by omega)
    refine lv_iload_n hx hb dX0_frost_7 rfl (lv_at hl 2 rfl) ?_
    refine lv_iconst (v := 0) hx hb dX0_frost_8 (by decide) ?_
    refine lv_bipush (v := 9) hx hb dX0_frost_9 (by decide) ?_
    refine cc_in S (rm_ok (Nat.le_of_ble_eq_true rfl)) hl.1 (Nat.le_of_ble_eq_true rfl) dX0_frost_11 ?_
    refine kb_ifne (tgt := 23) S dX0_frost_14 (by decide) (fun c_14 => ?_) (fun c_14 => ?_)
    · skip
      refine lv_aload_n hx hb dX0_frost_23 rfl (lv_at hl 0 rfl) ?_
      refine cg_d S hK hP dX0_frost_24 ?_
      refine cd_frost S hK hP dX0_frost_27 ?_
      refine lv_iload_n hx hb dX0_frost_30 rfl (lv_at hl 1 rfl) ?_
      refine ck_ldf S hK hP (a_) (by omega) rfl dX0_frost_31 ?_
      refine lv_istore_n (lv' := [(3, .int (r (4 + a_))), (0, .ref (t.2.1 0)), (1, .int ((nI a_))), (2, .int (v))]) hx hb dX0_frost_32 rfl hl (by decide) rfl (fun ls hl => ?_)
      refine lv_aload_n hx hb dX0_frost_33 rfl (lv_at hl 1 rfl) ?_
      refine cg_d S hK hP dX0_frost_34 ?_
      refine cd_frost S hK hP dX0_frost_37 ?_
      refine lv_iload_n hx hb dX0_frost_40 rfl (lv_at hl 2 rfl) ?_
      refine lv_iload_n hx hb dX0_frost_41 rfl (lv_at hl 3 rfl) ?_
      refine ck_stf S hK hP hS (fun _ h => h) (a_) (by omega) rfl dX0_frost_42 (fun H locs hP hS => ?_)
      refine lv_iload_n hx hb dX0_frost_43 rfl (lv_at hl 0 rfl) ?_
      have ho : o_frost r (nI a_) v = (r (4 + a_), (upd r (4 + a_) v), none) := by first | (simp only [o_frost, c_4, c_14, hcl_a_, reduceIte, and_self, oF, oK]; done) | (simp [o_frost, oF, oK, fnd, c_4, c_14, hcl_a_]; done) | (unfold o_frost oF oK; grind)
      exact kk_iretW S hr hlk hS (by rw [ho]; exact hP) (by rw [ho]) dX0_frost_44
    · skip
      refine lv_aload_n hx hb dX0_frost_17 rfl (lv_at hl 0 rfl) ?_
      refine lv_iconst (v := 0) hx hb dX0_frost_18 (by decide) ?_
      refine cc_finding S hK hP hS (rm_ok (Nat.le_of_ble_eq_true rfl)) hl.1 (0) (by omega) rfl (Nat.le_of_ble_eq_true rfl) dX0_frost_19 (fun H locs hP hS => ?_)
      have ho : o_frost r (nI a_) v = (fnd 0, r, some 0) := by first | (simp only [o_frost, c_4, c_14, hcl_a_, reduceIte, and_self, oF, oK]; done) | (simp [o_frost, oF, oK, fnd, c_4, c_14, hcl_a_]; done) | (unfold o_frost oF oK; grind)
      exact kk_iretW S hr hlk hS (by rw [ho]; exact hP) (by rw [ho]) dX0_frost_22
set_option maxHeartbeats 4000000 in
set_option maxRecDepth 100000 in
theorem k0_storm (l : Launch) (t : CT) (r : Rw) (x : Nat → Rw) (a : Int32) (v : Int32) : Met l yX0_storm (ws_ yX0_storm cX0_storm 4 (some .int)) (rmF 2) (va_Pc [.ref (t.2.1 0), .int a, .int v] (fun U => cK t U ∧ cX t r x U.heap)) (kW (some (.int ((o_storm r a v).1))) (cX t ((o_storm r a v).2.1) (fx x (o_storm r a v).2.2)) (cA t)) 0 0 (cA t) := by
  refine kk_start (by decide) (Nat.le_of_ble_eq_true rfl) ?_
  intro p e s m below meth c S hr hlk hin hB ls hl
  obtain ⟨hK, hP⟩ := hB
  have hx := S.1
  have hb := S.2.1
  have hown : s.vm.findClass RX0 = some m.cls := S.2.2.2.1
  have hts := S.2.2.2.2
  have hS : va_S (cA t) s.heap s.heap [] := va_S.rf
  have hl : lv_has ls 4 [(0, .ref (t.2.1 0)), (1, .int (a)), (2, .int (v))] := hl
  refine lv_iload_n hx hb dX0_storm_0 rfl (lv_at hl 1 rfl) ?_
  refine cc_isCellar S (rm_ok (Nat.le_of_ble_eq_true rfl)) hl.1 (Nat.le_of_ble_eq_true rfl) dX0_storm_1 ?_
  refine kb_ifeq (tgt := 14) S dX0_storm_4 (by decide) (fun c_4 => ?_) (fun c_4 => ?_)
  · skip
    refine lv_aload_n hx hb dX0_storm_14 rfl (lv_at hl 0 rfl) ?_
    refine lv_iconst (v := 0) hx hb dX0_storm_15 (by decide) ?_
    refine cc_finding S hK hP hS (rm_ok (Nat.le_of_ble_eq_true rfl)) hl.1 (0) (by omega) rfl (Nat.le_of_ble_eq_true rfl) dX0_storm_16 (fun H locs hP hS => ?_)
    have ho : o_storm r a v = (fnd 0, r, some 0) := by first | (simp only [o_storm, c_4, reduceIte, and_self, oF, oK]; done) | (simp [o_storm, oF, oK, fnd, c_4]; done) | (unfold o_storm oF oK; grind)
    exact kk_iretW S hr hlk hS (by rw [ho]; exact hP) (by rw [ho]) dX0_storm_19
  · skip
    obtain ⟨a_, ha_, rfl⟩ := nat_of_lt (n := 6) (rfl) (by omega) c_4
    have hcl_a_ := nI_clamp (n := a_) (by omega)
    refine lv_iload_n hx hb dX0_storm_7 rfl (lv_at hl 2 rfl) ?_
    refine cc_isStorm S (rm_ok (Nat.le_of_ble_eq_true rfl)) hl.1 (Nat.le_of_ble_eq_true rfl) dX0_storm_8 ?_
    refine kb_ifne (tgt := 20) S dX0_storm_11 (by decide) (fun c_11 => ?_) (fun c_11 => ?_)
    · skip
      refine lv_aload_n hx hb dX0_storm_20 rfl (lv_at hl 0 rfl) ?_
      refine cg_d S hK hP dX0_storm_21 ?_
      refine cd_list S hK hP dX0_storm_24 ?_
      refine lv_iload_n hx hb dX0_storm_27 rfl (lv_at hl 1 rfl) ?_
      refine ck_ldl S hK hP (a_) (by omega) rfl dX0_storm_28 ?_
      refine lv_istore_n (lv' := [(3, .int (r (10 + a_))), (0, .ref (t.2.1 0)), (1, .int ((nI a_))), (2, .int (v))]) hx hb dX0_storm_29 rfl hl (by decide) rfl (fun ls hl => ?_)
      refine lv_aload_n hx hb dX0_storm_30 rfl (lv_at hl 1 rfl) ?_
      refine cg_d S hK hP dX0_storm_31 ?_
      refine cd_list S hK hP dX0_storm_34 ?_
      refine lv_iload_n hx hb dX0_storm_37 rfl (lv_at hl 2 rfl) ?_
      refine lv_iload_n hx hb dX0_storm_38 rfl (lv_at hl 3 rfl) ?_
      refine ck_stl S hK hP hS (fun _ h => h) (a_) (by omega) rfl dX0_storm_39 (fun H locs hP hS => ?_)
      refine lv_iload_n hx hb dX0_storm_40 rfl (lv_at hl 0 rfl) ?_
      have ho : o_storm r (nI a_) v = (r (10 + a_), (upd r (10 + a_) v), none) := by first | (simp only [o_storm, c_4, c_11, hcl_a_, reduceIte, and_self, oF, oK]; done) | (simp [o_storm, oF, oK, fnd, c_4, c_11, hcl_a_]; done) | (unfold o_storm oF oK; grind)
      exact kk_iretW S hr hlk hS (by rw [ho]; exact hP) (by rw [ho]) dX0_storm_41
    · skip
      refine lv_aload_n hx hb dX0_storm_14 rfl (lv_at hl 0 rfl) ?_
      refine lv_iconst (v := 0) hx hb dX0_storm_15 (by decide) ?_
      refine cc_finding S hK hP hS (rm_ok (Nat.le_of_ble_eq_true rfl)) hl.1 (0) (by omega) rfl (Nat.le_of_ble_eq_true rfl) dX0_storm_16 (fun H locs hP hS => ?_)
      have ho : o_storm r (nI a_) v = (fnd 0, r, some 0) := by first | (simp only [o_storm, c_4, c_11, hcl_a_, reduceIte, and_self, oF, oK]; done) | (simp [o_storm, oF, oK, fnd, c_4, c_11, hcl_a_]; done) | (unfold o_storm oF oK; grind)
      exact kk_iretW S hr hlk hS (by rw [ho]; exact hP) (by rw [ho]) dX0_storm_19
set_option maxHeartbeats 4000000 in
set_option maxRecDepth 100000 in
theorem k0_cellar (l : Launch) (t : CT) (r : Rw) (x : Nat → Rw) (a : Int32) (w : Int32) (b : Nat) (hV : pV b r) : Met l yX0_cellar (ws_ yX0_cellar cX0_cellar 3 (some .int)) (rmF 2) (va_Pc [.ref (t.2.1 0), .int a, .int w] (fun U => cK t U ∧ cX t r x U.heap)) (kW (some (.int ((o_cellar r a w).1))) (cX t ((o_cellar r a w).2.1) (fx x (o_cellar r a w).2.2)) (cA t)) 0 0 (cA t) := by
  refine kk_start (by decide) (Nat.le_of_ble_eq_true rfl) ?_
  intro p e s m below meth c S hr hlk hin hB ls hl
  obtain ⟨hK, hP⟩ := hB
  have hx := S.1
  have hb := S.2.1
  have hown : s.vm.findClass RX0 = some m.cls := S.2.2.2.1
  have hts := S.2.2.2.2
  have hS : va_S (cA t) s.heap s.heap [] := va_S.rf
  have hl : lv_has ls 3 [(0, .ref (t.2.1 0)), (1, .int (a)), (2, .int (w))] := hl
  have hn := hV.n.1
  have hn8 := hV.n.2
  refine lv_iload_n hx hb dX0_cellar_0 rfl (lv_at hl 1 rfl) ?_
  refine cc_isCellar S (rm_ok (Nat.le_of_ble_eq_true rfl)) hl.1 (Nat.le_of_ble_eq_true rfl) dX0_cellar_1 ?_
  refine kb_ifne (tgt := 13) S dX0_cellar_4 (by decide) (fun c_4 => ?_) (fun c_4 => ?_)
  · skip
    obtain ⟨a_, ha_, rfl⟩ := nat_of_lt (n := 6) (rfl) (by omega) c_4
    have hcl_a_ := nI_clamp (n := a_) (by omega)
    refine lv_iload_n hx hb dX0_cellar_13 rfl (lv_at hl 2 rfl) ?_
    by_cases c_14 : 0 ≤ w ∧ w < 4
    · skip
      obtain ⟨w_, hw_, rfl⟩ := nat_of_lt (n := 4) rfl (by omega) c_14
      have hcl_w_ := nI_clamp (n := w_) (by omega)
      rcases (show w_ = 0 ∨ w_ = 1 ∨ w_ = 2 ∨ w_ = 3 by omega) with k_14 | k_14 | k_14 | k_14
      · skip
        refine kb_tabIn (tgt := 44) S ((rfl).trans (congrArg nI k_14)) (by decide) dX0_cellar_14 (by decide) (by decide) rfl (by decide) ?_
        subst k_14
        refine lv_aload_n hx hb dX0_cellar_44 rfl (lv_at hl 0 rfl) ?_
        refine cg_d S hK hP dX0_cellar_45 ?_
        refine cd_frost S hK hP dX0_cellar_48 ?_
        refine lv_iload_n hx hb dX0_cellar_51 rfl (lv_at hl 1 rfl) ?_
        refine ck_ldf S hK hP (a_) (by omega) rfl dX0_cellar_52 ?_
        have ho : o_cellar r (nI a_) (nI 0) = (r (4 + a_), r, none) := by first | (have e : nI 0 = 0 := rfl; simp only [e] at c_14 ⊢; simp [o_cellar, oF, oK, c_4, hcl_a_]; done) | (simp only [o_cellar, c_4, c_14, hcl_a_, hcl_w_, reduceIte, and_self, oF, oK]; done) | (simp [o_cellar, oF, oK, fnd, c_4, c_14, hcl_a_, hcl_w_]; done) | (unfold o_cellar oF oK; grind)
        exact kk_iretW S hr hlk hS (by rw [ho]; exact hP) (by rw [ho]) dX0_cellar_53
      · skip
        refine kb_tabIn (tgt := 54) S ((rfl).trans (congrArg nI k_14)) (by decide) dX0_cellar_14 (by decide) (by decide) rfl (by decide) ?_
        subst k_14
        refine lv_aload_n hx hb dX0_cellar_54 rfl (lv_at hl 0 rfl) ?_
        refine cg_d S hK hP dX0_cellar_55 ?_
        refine cd_list S hK hP dX0_cellar_58 ?_
        refine lv_iload_n hx hb dX0_cellar_61 rfl (lv_at hl 1 rfl) ?_
        refine ck_ldl S hK hP (a_) (by omega) rfl dX0_cellar_62 ?_
        have ho : o_cellar r (nI a_) (nI 1) = (r (10 + a_), r, none) := by first | (have e : nI 1 = 1 := rfl; simp only [e] at c_14 ⊢; simp [o_cellar, oF, oK, c_4, hcl_a_]; done) | (simp only [o_cellar, c_4, c_14, hcl_a_, hcl_w_, reduceIte, and_self, oF, oK]; done) | (simp [o_cellar, oF, oK, fnd, c_4, c_14, hcl_a_, hcl_w_]; done) | (unfold o_cellar oF oK; grind)
        exact kk_iretW S hr hlk hS (by rw [ho]; exact hP) (by rw [ho]) dX0_cellar_63
      · skip
        refine kb_tabIn (tgt := 64) S ((rfl).trans (congrArg nI k_14)) (by decide) dX0_cellar_14 (by decide) (by decide) rfl (by decide) ?_
        subst k_14
        refine lv_aload_n hx hb dX0_cellar_64 rfl (lv_at hl 0 rfl) ?_
        refine cg_d S hK hP dX0_cellar_65 ?_
        refine lv_iload_n hx hb dX0_cellar_68 rfl (lv_at hl 1 rfl) ?_
        refine d0_whatIsIn S hK hP (rm_ok (Nat.le_of_ble_eq_true rfl)) hl.1 (b) hV (Nat.le_of_ble_eq_true rfl) dX0_cellar_69 ?_
        have ho : o_cellar r (nI a_) (nI 2) = (nI (p_there r (nI a_)), r, none) := by first | (have e : nI 2 = 2 := rfl; simp only [e] at c_14 ⊢; simp [o_cellar, oF, oK, c_4, hcl_a_]; done) | (simp only [o_cellar, c_4, c_14, hcl_a_, hcl_w_, reduceIte, and_self, oF, oK]; done) | (simp [o_cellar, oF, oK, fnd, c_4, c_14, hcl_a_, hcl_w_]; done) | (unfold o_cellar oF oK; grind)
        exact kk_iretW S hr hlk hS (by rw [ho]; exact hP) (by rw [ho]) dX0_cellar_72
      · skip
        refine kb_tabIn (tgt := 73) S ((rfl).trans (congrArg nI k_14)) (by decide) dX0_cellar_14 (by decide) (by decide) rfl (by decide) ?_
        subst k_14
        refine lv_aload_n hx hb dX0_cellar_73 rfl (lv_at hl 0 rfl) ?_
        refine cg_d S hK hP dX0_cellar_74 ?_
        refine lv_iload_n hx hb dX0_cellar_77 rfl (lv_at hl 1 rfl) ?_
        refine d0_emptiest S hK hP (rm_ok (Nat.le_of_ble_eq_true rfl)) hl.1 (b) hV (Nat.le_of_ble_eq_true rfl) dX0_cellar_78 ?_
        have ho : o_cellar r (nI a_) (nI 3) = (oi (p_emp r (nI a_)), r, none) := by first | (have e : nI 3 = 3 := rfl; simp only [e] at c_14 ⊢; simp [o_cellar, oF, oK, c_4, hcl_a_]; done) | (simp only [o_cellar, c_4, c_14, hcl_a_, hcl_w_, reduceIte, and_self, oF, oK]; done) | (simp [o_cellar, oF, oK, fnd, c_4, c_14, hcl_a_, hcl_w_]; done) | (unfold o_cellar oF oK; grind)
        exact kk_iretW S hr hlk hS (by rw [ho]; exact hP) (by rw [ho]) dX0_cellar_81
    · skip
      refine kb_tabRaw (n := 4) (tgt := 82) S rfl (by decide) c_14 (by decide) dX0_cellar_14 (by decide) ?_
      refine lv_aload_n hx hb dX0_cellar_82 rfl (lv_at hl 0 rfl) ?_
      refine lv_iconst (v := 0) hx hb dX0_cellar_83 (by decide) ?_
      refine cc_finding S hK hP hS (rm_ok (Nat.le_of_ble_eq_true rfl)) hl.1 (0) (by omega) rfl (Nat.le_of_ble_eq_true rfl) dX0_cellar_84 (fun H locs hP hS => ?_)
      have ho : o_cellar r (nI a_) w = (fnd 0, r, some 0) := by first | (simp only [o_cellar, c_4, c_14, hcl_a_, reduceIte, and_self, oF, oK]; done) | (simp [o_cellar, oF, oK, fnd, c_4, c_14, hcl_a_]; done) | (unfold o_cellar oF oK; grind)
      exact kk_iretW S hr hlk hS (by rw [ho]; exact hP) (by rw [ho]) dX0_cellar_87
  · skip
    refine lv_aload_n hx hb dX0_cellar_7 rfl (lv_at hl 0 rfl) ?_
    refine lv_iconst (v := 0) hx hb dX0_cellar_8 (by decide) ?_
    refine cc_finding S hK hP hS (rm_ok (Nat.le_of_ble_eq_true rfl)) hl.1 (0) (by omega) rfl (Nat.le_of_ble_eq_true rfl) dX0_cellar_9 (fun H locs hP hS => ?_)
    have ho : o_cellar r a w = (fnd 0, r, some 0) := by first | (simp only [o_cellar, c_4, reduceIte, and_self, oF, oK]; done) | (simp [o_cellar, oF, oK, fnd, c_4]; done) | (unfold o_cellar oF oK; grind)
    exact kk_iretW S hr hlk hS (by rw [ho]; exact hP) (by rw [ho]) dX0_cellar_12
set_option maxHeartbeats 4000000 in
set_option maxRecDepth 100000 in
theorem k0_cask (l : Launch) (t : CT) (r : Rw) (x : Nat → Rw) (i : Int32) (v : Int32) (b : Nat) (hV : pV b r) : Met l yX0_cask (ws_ yX0_cask cX0_cask 3 (some .int)) (rmF 2) (va_Pc [.ref (t.2.1 0), .int i, .int v] (fun U => cK t U ∧ cX t r x U.heap)) (kW (some (.int ((o_cask r i v).1))) (cX t ((o_cask r i v).2.1) (fx x (o_cask r i v).2.2)) (cA t)) 0 0 (cA t) := by
  refine kk_start (by decide) (Nat.le_of_ble_eq_true rfl) ?_
  intro p e s m below meth c S hr hlk hin hB ls hl
  obtain ⟨hK, hP⟩ := hB
  have hx := S.1
  have hb := S.2.1
  have hown : s.vm.findClass RX0 = some m.cls := S.2.2.2.1
  have hts := S.2.2.2.2
  have hS : va_S (cA t) s.heap s.heap [] := va_S.rf
  have hl : lv_has ls 3 [(0, .ref (t.2.1 0)), (1, .int (i)), (2, .int (v))] := hl
  have hn := hV.n.1
  have hn8 := hV.n.2
  refine lv_iload_n hx hb dX0_cask_0 rfl (lv_at hl 1 rfl) ?_
  refine cc_isKind S (rm_ok (Nat.le_of_ble_eq_true rfl)) hl.1 (Nat.le_of_ble_eq_true rfl) dX0_cask_1 ?_
  refine kb_ifeq (tgt := 14) S dX0_cask_4 (by decide) (fun c_4 => ?_) (fun c_4 => ?_)
  · skip
    refine lv_aload_n hx hb dX0_cask_14 rfl (lv_at hl 0 rfl) ?_
    refine lv_iconst (v := 0) hx hb dX0_cask_15 (by decide) ?_
    refine cc_finding S hK hP hS (rm_ok (Nat.le_of_ble_eq_true rfl)) hl.1 (0) (by omega) rfl (Nat.le_of_ble_eq_true rfl) dX0_cask_16 (fun H locs hP hS => ?_)
    have ho : o_cask r i v = (fnd 0, r, some 0) := by first | (simp only [o_cask, c_4, reduceIte, and_self, oF, oK]; done) | (simp [o_cask, oF, oK, fnd, c_4]; done) | (unfold o_cask oF oK; grind)
    exact kk_iretW S hr hlk hS (by rw [ho]; exact hP) (by rw [ho]) dX0_cask_19
  · skip
    refine lv_iload_n hx hb dX0_cask_7 rfl (lv_at hl 2 rfl) ?_
    refine cc_isCellar S (rm_ok (Nat.le_of_ble_eq_true rfl)) hl.1 (Nat.le_of_ble_eq_true rfl) dX0_cask_8 ?_
    refine kb_ifne (tgt := 20) S dX0_cask_11 (by decide) (fun c_11 => ?_) (fun c_11 => ?_)
    · skip
      refine lv_aload_n hx hb dX0_cask_20 rfl (lv_at hl 0 rfl) ?_
      refine cg_d S hK hP dX0_cask_21 ?_
      refine cd_casks S hK hP dX0_cask_24 ?_
      refine lv_bipush (v := 8) hx hb dX0_cask_27 (by decide) ?_
      refine kb_ne_n (tgt := 38) (a := (pN r)) (b := 8) S hn rfl (by omega) (by omega) dX0_cask_29 (by decide) (fun c_29 => ?_) (fun c_29 => ?_)
      · skip
        refine lv_aload_n hx hb dX0_cask_38 rfl (lv_at hl 0 rfl) ?_
        refine cg_d S hK hP dX0_cask_39 ?_
        refine lv_iload_n hx hb dX0_cask_42 rfl (lv_at hl 1 rfl) ?_
        refine lv_iload_n hx hb dX0_cask_43 rfl (lv_at hl 2 rfl) ?_
        refine d0_add S hK hP hS (rm_ok (Nat.le_of_ble_eq_true rfl)) hl.1 (b) hV (by omega) (Nat.le_of_ble_eq_true rfl) dX0_cask_44 (fun H locs hP hS => ?_)
        refine lv_aload_n hx hb dX0_cask_47 rfl (lv_at hl 0 rfl) ?_
        refine cg_d S hK hP dX0_cask_48 ?_
        refine cd_casks S hK hP dX0_cask_51 ?_
        refine lv_iconst (v := 1) hx hb dX0_cask_54 (by decide) ?_
        refine lv_isub hx hb dX0_cask_55 ?_
        have ho : o_cask r i v = (((p_comes r i v) 0 - 1), (p_comes r i v), none) := by first | (simp only [o_cask, c_4, c_11, c_29, reduceIte, and_self, oF, oK]; done) | (simp [o_cask, oF, oK, fnd, c_4, c_11, c_29]; done) | (unfold o_cask oF oK; grind)
        exact kk_iretW S hr hlk hS (by rw [ho]; exact hP) (by rw [ho]) dX0_cask_56
      · skip
        refine lv_aload_n hx hb dX0_cask_32 rfl (lv_at hl 0 rfl) ?_
        refine lv_iconst (v := 1) hx hb dX0_cask_33 (by decide) ?_
        refine cc_finding S hK hP hS (rm_ok (Nat.le_of_ble_eq_true rfl)) hl.1 (1) (by omega) rfl (Nat.le_of_ble_eq_true rfl) dX0_cask_34 (fun H locs hP hS => ?_)
        have ho : o_cask r i v = (fnd 1, r, some 1) := by first | (simp only [o_cask, c_4, c_11, c_29, reduceIte, and_self, oF, oK]; done) | (simp [o_cask, oF, oK, fnd, c_4, c_11, c_29]; done) | (unfold o_cask oF oK; grind)
        exact kk_iretW S hr hlk hS (by rw [ho]; exact hP) (by rw [ho]) dX0_cask_37
    · skip
      refine lv_aload_n hx hb dX0_cask_14 rfl (lv_at hl 0 rfl) ?_
      refine lv_iconst (v := 0) hx hb dX0_cask_15 (by decide) ?_
      refine cc_finding S hK hP hS (rm_ok (Nat.le_of_ble_eq_true rfl)) hl.1 (0) (by omega) rfl (Nat.le_of_ble_eq_true rfl) dX0_cask_16 (fun H locs hP hS => ?_)
      have ho : o_cask r i v = (fnd 0, r, some 0) := by first | (simp only [o_cask, c_4, c_11, reduceIte, and_self, oF, oK]; done) | (simp [o_cask, oF, oK, fnd, c_4, c_11]; done) | (unfold o_cask oF oK; grind)
      exact kk_iretW S hr hlk hS (by rw [ho]; exact hP) (by rw [ho]) dX0_cask_19
set_option maxHeartbeats 4000000 in
set_option maxRecDepth 100000 in
theorem k0_of (l : Launch) (t : CT) (r : Rw) (x : Nat → Rw) (a : Int32) (w : Int32) (b : Nat) (hV : pV b r) : Met l yX0_of (ws_ yX0_of cX0_of 3 (some .int)) (rmF 5) (va_Pc [.ref (t.2.1 0), .int a, .int w] (fun U => cK t U ∧ cX t r x U.heap)) (kW (some (.int ((o_of r a w).1))) (cX t ((o_of r a w).2.1) (fx x (o_of r a w).2.2)) (cA t)) 0 0 (cA t) := by
  refine kk_start (by decide) (Nat.le_of_ble_eq_true rfl) ?_
  intro p e s m below meth c S hr hlk hin hB ls hl
  obtain ⟨hK, hP⟩ := hB
  have hx := S.1
  have hb := S.2.1
  have hown : s.vm.findClass RX0 = some m.cls := S.2.2.2.1
  have hts := S.2.2.2.2
  have hS : va_S (cA t) s.heap s.heap [] := va_S.rf
  have hl : lv_has ls 3 [(0, .ref (t.2.1 0)), (1, .int (a)), (2, .int (w))] := hl
  have hn := hV.n.1
  have hn8 := hV.n.2
  refine lv_aload_n hx hb dX0_of_0 rfl (lv_at hl 0 rfl) ?_
  refine lv_iload_n hx hb dX0_of_1 rfl (lv_at hl 1 rfl) ?_
  refine cc_isCask S hK hP (rm_ok (Nat.le_of_ble_eq_true rfl)) hl.1 (b) hV (Nat.le_of_ble_eq_true rfl) dX0_of_2 ?_
  refine kb_ifne (tgt := 14) S dX0_of_5 (by decide) (fun c_5 => ?_) (fun c_5 => ?_)
  · skip
    obtain ⟨a_, ha_, rfl⟩ := nat_of_lt (n := pN r) (hn) (by omega) c_5
    have hcl_a_ := nI_clamp (n := a_) (by omega)
    refine lv_iload_n hx hb dX0_of_14 rfl (lv_at hl 2 rfl) ?_
    refine lv_iconst (v := 1) hx hb dX0_of_15 (by decide) ?_
    refine lv_bipush (v := 6) hx hb dX0_of_16 (by decide) ?_
    refine cc_in S (rm_ok (Nat.le_of_ble_eq_true rfl)) hl.1 (Nat.le_of_ble_eq_true rfl) dX0_of_18 ?_
    refine kb_ifeq (tgt := 36) S dX0_of_21 (by decide) (fun c_21 => ?_) (fun c_21 => ?_)
    · skip
      refine lv_iload_n hx hb dX0_of_36 rfl (lv_at hl 2 rfl) ?_
      by_cases c_37 : 0 ≤ w ∧ w < 10
      · skip
        obtain ⟨w_, hw_, rfl⟩ := nat_of_lt (n := 10) rfl (by omega) c_37
        have hcl_w_ := nI_clamp (n := w_) (by omega)
        rcases (show w_ = 0 ∨ w_ = 1 ∨ w_ = 2 ∨ w_ = 3 ∨ w_ = 4 ∨ w_ = 5 ∨ w_ = 6 ∨ w_ = 7 ∨ w_ = 8 ∨ w_ = 9 by omega) with k_37 | k_37 | k_37 | k_37 | k_37 | k_37 | k_37 | k_37 | k_37 | k_37
        · skip
          refine kb_tabIn (tgt := 92) S ((rfl).trans (congrArg nI k_37)) (by decide) dX0_of_37 (by decide) (by decide) rfl (by decide) ?_
          subst k_37
          refine lv_aload_n hx hb dX0_of_92 rfl (lv_at hl 0 rfl) ?_
          refine lv_iload_n hx hb dX0_of_93 rfl (lv_at hl 1 rfl) ?_
          refine cc_caskOf S hK hP (rm_ok (Nat.le_of_ble_eq_true rfl)) hl.1 (a_) (b) (by omega) hV rfl (Nat.le_of_ble_eq_true rfl) dX0_of_94 ?_
          refine cv_kind S hK hP (rm_ok (Nat.le_of_ble_eq_true rfl)) hl.1 (a_) (by omega) b hV (Nat.le_of_ble_eq_true rfl) dX0_of_97 ?_
          have ho : o_of r (nI a_) (nI 0) = (r (16 + 7 * a_), r, none) := by first | (simp only [o_of, c_5, c_21, c_37, hcl_a_, hcl_w_, reduceIte, and_self, oF, oK]; done) | (simp [o_of, oF, oK, fnd, c_5, c_21, c_37, hcl_a_, hcl_w_]; done) | (unfold o_of oF oK; grind)
          exact kk_iretW S hr hlk hS (by rw [ho]; exact hP) (by rw [ho]) dX0_of_100
        · skip
          refine kb_tabIn (tgt := 128) S ((rfl).trans (congrArg nI k_37)) (by decide) dX0_of_37 (by decide) (by decide) rfl (by decide) ?_
          subst k_37
          refine lv_aload_n hx hb dX0_of_128 rfl (lv_at hl 0 rfl) ?_
          refine lv_iconst (v := 0) hx hb dX0_of_129 (by decide) ?_
          refine cc_finding S hK hP hS (rm_ok (Nat.le_of_ble_eq_true rfl)) hl.1 (0) (by omega) rfl (Nat.le_of_ble_eq_true rfl) dX0_of_130 (fun H locs hP hS => ?_)
          have ho : o_of r (nI a_) (nI 1) = (fnd 0, r, some 0) := by first | (exact absurd (by decide) c_21) | (simp only [o_of, c_5, c_21, c_37, hcl_a_, hcl_w_, reduceIte, and_self, oF, oK]; done) | (simp [o_of, oF, oK, fnd, c_5, c_21, c_37, hcl_a_, hcl_w_]; done) | (unfold o_of oF oK; grind)
          exact kk_iretW S hr hlk hS (by rw [ho]; exact hP) (by rw [ho]) dX0_of_133
        · skip
          refine kb_tabIn (tgt := 128) S ((rfl).trans (congrArg nI k_37)) (by decide) dX0_of_37 (by decide) (by decide) rfl (by decide) ?_
          subst k_37
          refine lv_aload_n hx hb dX0_of_128 rfl (lv_at hl 0 rfl) ?_
          refine lv_iconst (v := 0) hx hb dX0_of_129 (by decide) ?_
          refine cc_finding S hK hP hS (rm_ok (Nat.le_of_ble_eq_true rfl)) hl.1 (0) (by omega) rfl (Nat.le_of_ble_eq_true rfl) dX0_of_130 (fun H locs hP hS => ?_)
          have ho : o_of r (nI a_) (nI 2) = (fnd 0, r, some 0) := by first | (exact absurd (by decide) c_21) | (simp only [o_of, c_5, c_21, c_37, hcl_a_, hcl_w_, reduceIte, and_self, oF, oK]; done) | (simp [o_of, oF, oK, fnd, c_5, c_21, c_37, hcl_a_, hcl_w_]; done) | (unfold o_of oF oK; grind)
          exact kk_iretW S hr hlk hS (by rw [ho]; exact hP) (by rw [ho]) dX0_of_133
        · skip
          refine kb_tabIn (tgt := 128) S ((rfl).trans (congrArg nI k_37)) (by decide) dX0_of_37 (by decide) (by decide) rfl (by decide) ?_
          subst k_37
          refine lv_aload_n hx hb dX0_of_128 rfl (lv_at hl 0 rfl) ?_
          refine lv_iconst (v := 0) hx hb dX0_of_129 (by decide) ?_
          refine cc_finding S hK hP hS (rm_ok (Nat.le_of_ble_eq_true rfl)) hl.1 (0) (by omega) rfl (Nat.le_of_ble_eq_true rfl) dX0_of_130 (fun H locs hP hS => ?_)
          have ho : o_of r (nI a_) (nI 3) = (fnd 0, r, some 0) := by first | (exact absurd (by decide) c_21) | (simp only [o_of, c_5, c_21, c_37, hcl_a_, hcl_w_, reduceIte, and_self, oF, oK]; done) | (simp [o_of, oF, oK, fnd, c_5, c_21, c_37, hcl_a_, hcl_w_]; done) | (unfold o_of oF oK; grind)
          exact kk_iretW S hr hlk hS (by rw [ho]; exact hP) (by rw [ho]) dX0_of_133
        · skip
          refine kb_tabIn (tgt := 128) S ((rfl).trans (congrArg nI k_37)) (by decide) dX0_of_37 (by decide) (by decide) rfl (by decide) ?_
          subst k_37
          refine lv_aload_n hx hb dX0_of_128 rfl (lv_at hl 0 rfl) ?_
          refine lv_iconst (v := 0) hx hb dX0_of_129 (by decide) ?_
          refine cc_finding S hK hP hS (rm_ok (Nat.le_of_ble_eq_true rfl)) hl.1 (0) (by omega) rfl (Nat.le_of_ble_eq_true rfl) dX0_of_130 (fun H locs hP hS => ?_)
          have ho : o_of r (nI a_) (nI 4) = (fnd 0, r, some 0) := by first | (exact absurd (by decide) c_21) | (simp only [o_of, c_5, c_21, c_37, hcl_a_, hcl_w_, reduceIte, and_self, oF, oK]; done) | (simp [o_of, oF, oK, fnd, c_5, c_21, c_37, hcl_a_, hcl_w_]; done) | (unfold o_of oF oK; grind)
          exact kk_iretW S hr hlk hS (by rw [ho]; exact hP) (by rw [ho]) dX0_of_133
        · skip
          refine kb_tabIn (tgt := 128) S ((rfl).trans (congrArg nI k_37)) (by decide) dX0_of_37 (by decide) (by decide) rfl (by decide) ?_
          subst k_37
          refine lv_aload_n hx hb dX0_of_128 rfl (lv_at hl 0 rfl) ?_
          refine lv_iconst (v := 0) hx hb dX0_of_129 (by decide) ?_
          refine cc_finding S hK hP hS (rm_ok (Nat.le_of_ble_eq_true rfl)) hl.1 (0) (by omega) rfl (Nat.le_of_ble_eq_true rfl) dX0_of_130 (fun H locs hP hS => ?_)
          have ho : o_of r (nI a_) (nI 5) = (fnd 0, r, some 0) := by first | (exact absurd (by decide) c_21) | (simp only [o_of, c_5, c_21, c_37, hcl_a_, hcl_w_, reduceIte, and_self, oF, oK]; done) | (simp [o_of, oF, oK, fnd, c_5, c_21, c_37, hcl_a_, hcl_w_]; done) | (unfold o_of oF oK; grind)
          exact kk_iretW S hr hlk hS (by rw [ho]; exact hP) (by rw [ho]) dX0_of_133
        · skip
          refine kb_tabIn (tgt := 128) S ((rfl).trans (congrArg nI k_37)) (by decide) dX0_of_37 (by decide) (by decide) rfl (by decide) ?_
          subst k_37
          refine lv_aload_n hx hb dX0_of_128 rfl (lv_at hl 0 rfl) ?_
          refine lv_iconst (v := 0) hx hb dX0_of_129 (by decide) ?_
          refine cc_finding S hK hP hS (rm_ok (Nat.le_of_ble_eq_true rfl)) hl.1 (0) (by omega) rfl (Nat.le_of_ble_eq_true rfl) dX0_of_130 (fun H locs hP hS => ?_)
          have ho : o_of r (nI a_) (nI 6) = (fnd 0, r, some 0) := by first | (exact absurd (by decide) c_21) | (simp only [o_of, c_5, c_21, c_37, hcl_a_, hcl_w_, reduceIte, and_self, oF, oK]; done) | (simp [o_of, oF, oK, fnd, c_5, c_21, c_37, hcl_a_, hcl_w_]; done) | (unfold o_of oF oK; grind)
          exact kk_iretW S hr hlk hS (by rw [ho]; exact hP) (by rw [ho]) dX0_of_133
        · skip
          refine kb_tabIn (tgt := 101) S ((rfl).trans (congrArg nI k_37)) (by decide) dX0_of_37 (by decide) (by decide) rfl (by decide) ?_
          subst k_37
          refine lv_aload_n hx hb dX0_of_101 rfl (lv_at hl 0 rfl) ?_
          refine lv_iload_n hx hb dX0_of_102 rfl (lv_at hl 1 rfl) ?_
          refine cc_caskOf S hK hP (rm_ok (Nat.le_of_ble_eq_true rfl)) hl.1 (a_) (b) (by omega) hV rfl (Nat.le_of_ble_eq_true rfl) dX0_of_103 ?_
          refine cv_loud S hK hP (rm_ok (Nat.le_of_ble_eq_true rfl)) hl.1 (a_) (by omega) b hV (Nat.le_of_ble_eq_true rfl) dX0_of_106 ?_
          have ho : o_of r (nI a_) (nI 7) = (p_loud r a_, r, none) := by first | (simp only [o_of, c_5, c_21, c_37, hcl_a_, hcl_w_, reduceIte, and_self, oF, oK]; done) | (simp [o_of, oF, oK, fnd, c_5, c_21, c_37, hcl_a_, hcl_w_]; done) | (unfold o_of oF oK; grind)
          exact kk_iretW S hr hlk hS (by rw [ho]; exact hP) (by rw [ho]) dX0_of_109
        · skip
          refine kb_tabIn (tgt := 110) S ((rfl).trans (congrArg nI k_37)) (by decide) dX0_of_37 (by decide) (by decide) rfl (by decide) ?_
          subst k_37
          refine lv_aload_n hx hb dX0_of_110 rfl (lv_at hl 0 rfl) ?_
          refine lv_iload_n hx hb dX0_of_111 rfl (lv_at hl 1 rfl) ?_
          refine cc_caskOf S hK hP (rm_ok (Nat.le_of_ble_eq_true rfl)) hl.1 (a_) (b) (by omega) hV rfl (Nat.le_of_ble_eq_true rfl) dX0_of_112 ?_
          refine cv_leaks S hK hP (rm_ok (Nat.le_of_ble_eq_true rfl)) hl.1 (a_) (by omega) b hV (Nat.le_of_ble_eq_true rfl) dX0_of_115 ?_
          have ho : o_of r (nI a_) (nI 8) = (p_leaks r a_, r, none) := by first | (simp only [o_of, c_5, c_21, c_37, hcl_a_, hcl_w_, reduceIte, and_self, oF, oK]; done) | (simp [o_of, oF, oK, fnd, c_5, c_21, c_37, hcl_a_, hcl_w_]; done) | (unfold o_of oF oK; grind)
          exact kk_iretW S hr hlk hS (by rw [ho]; exact hP) (by rw [ho]) dX0_of_118
        · skip
          refine kb_tabIn (tgt := 119) S ((rfl).trans (congrArg nI k_37)) (by decide) dX0_of_37 (by decide) (by decide) rfl (by decide) ?_
          subst k_37
          refine lv_aload_n hx hb dX0_of_119 rfl (lv_at hl 0 rfl) ?_
          refine lv_iload_n hx hb dX0_of_120 rfl (lv_at hl 1 rfl) ?_
          refine cc_caskOf S hK hP (rm_ok (Nat.le_of_ble_eq_true rfl)) hl.1 (a_) (b) (by omega) hV rfl (Nat.le_of_ble_eq_true rfl) dX0_of_121 ?_
          refine cv_bears S hK hP (rm_ok (Nat.le_of_ble_eq_true rfl)) hl.1 (a_) (by omega) b hV (Nat.le_of_ble_eq_true rfl) dX0_of_124 ?_
          have ho : o_of r (nI a_) (nI 9) = (p_bears r a_, r, none) := by first | (simp only [o_of, c_5, c_21, c_37, hcl_a_, hcl_w_, reduceIte, and_self, oF, oK]; done) | (simp [o_of, oF, oK, fnd, c_5, c_21, c_37, hcl_a_, hcl_w_]; done) | (unfold o_of oF oK; grind)
          exact kk_iretW S hr hlk hS (by rw [ho]; exact hP) (by rw [ho]) dX0_of_127
      · skip
        refine kb_tabRaw (n := 10) (tgt := 128) S rfl (by decide) c_37 (by decide) dX0_of_37 (by decide) ?_
        refine lv_aload_n hx hb dX0_of_128 rfl (lv_at hl 0 rfl) ?_
        refine lv_iconst (v := 0) hx hb dX0_of_129 (by decide) ?_
        refine cc_finding S hK hP hS (rm_ok (Nat.le_of_ble_eq_true rfl)) hl.1 (0) (by omega) rfl (Nat.le_of_ble_eq_true rfl) dX0_of_130 (fun H locs hP hS => ?_)
        have ho : o_of r (nI a_) w = (fnd 0, r, some 0) := by first | (exact absurd (by decide) c_21) | (simp only [o_of, c_5, c_21, c_37, hcl_a_, reduceIte, and_self, oF, oK]; done) | (simp [o_of, oF, oK, fnd, c_5, c_21, c_37, hcl_a_]; done) | (unfold o_of oF oK; grind)
        exact kk_iretW S hr hlk hS (by rw [ho]; exact hP) (by rw [ho]) dX0_of_133
    · skip
      obtain ⟨w_, hw_, rfl⟩ := nat_of_1 (n := 6) (rfl) (by omega) c_21
      have hcl_w_ := nI_clamp (n := w_) (by omega)
      refine lv_aload_n hx hb dX0_of_24 rfl (lv_at hl 0 rfl) ?_
      refine cg_d S hK hP dX0_of_25 ?_
      refine cd_cask S hK hP dX0_of_28 ?_
      refine lv_iload_n hx hb dX0_of_31 rfl (lv_at hl 2 rfl) ?_
      refine ck_aald S hK hP (w_) (by omega) rfl dX0_of_32 ?_
      refine lv_iload_n hx hb dX0_of_33 rfl (lv_at hl 1 rfl) ?_
      refine ck_ldc S hK hP (w_) (by omega) (a_) (by omega) rfl dX0_of_34 ?_
      have ho : o_of r (nI a_) (nI w_) = (r (16 + 7 * a_ + w_), r, none) := by first | (rcases (show w_ = 0 ∨ w_ = 1 ∨ w_ = 2 ∨ w_ = 3 ∨ w_ = 4 ∨ w_ = 5 ∨ w_ = 6 by omega) with e | e | e | e | e | e | e <;> subst e <;> first | exact absurd c_21.1 (by decide) | (rw [o_of, if_pos c_5, if_pos (by decide), hcl_a_]; rfl)) | (simp only [o_of, c_5, c_21, hcl_a_, hcl_w_, reduceIte, and_self, oF, oK]; done) | (simp [o_of, oF, oK, fnd, c_5, c_21, hcl_a_, hcl_w_]; done) | (unfold o_of oF oK; grind)
      exact kk_iretW S hr hlk hS (by rw [ho]; exact hP) (by rw [ho]) dX0_of_35
  · skip
    refine lv_aload_n hx hb dX0_of_8 rfl (lv_at hl 0 rfl) ?_
    refine lv_iconst (v := 0) hx hb dX0_of_9 (by decide) ?_
    refine cc_finding S hK hP hS (rm_ok (Nat.le_of_ble_eq_true rfl)) hl.1 (0) (by omega) rfl (Nat.le_of_ble_eq_true rfl) dX0_of_10 (fun H locs hP hS => ?_)
    have ho : o_of r a w = (fnd 0, r, some 0) := by first | (simp only [o_of, c_5, reduceIte, and_self, oF, oK]; done) | (simp [o_of, oF, oK, fnd, c_5]; done) | (unfold o_of oF oK; grind)
    exact kk_iretW S hr hlk hS (by rw [ho]; exact hP) (by rw [ho]) dX0_of_13
set_option maxHeartbeats 4000000 in
set_option maxRecDepth 100000 in
theorem k0_change (l : Launch) (t : CT) (r : Rw) (x : Nat → Rw) (a : Int32) (w : Int32) (v : Int32) (b : Nat) (hV : pV b r) : Met l yX0_change (ws_ yX0_change cX0_change 5 (some .int)) (rmF 3) (va_Pc [.ref (t.2.1 0), .int a, .int w, .int v] (fun U => cK t U ∧ cX t r x U.heap)) (kW (some (.int ((o_change r a w v).1))) (cX t ((o_change r a w v).2.1) (fx x (o_change r a w v).2.2)) (cA t)) 0 0 (cA t) := by
  refine kk_start (by decide) (Nat.le_of_ble_eq_true rfl) ?_
  intro p e s m below meth c S hr hlk hin hB ls hl
  obtain ⟨hK, hP⟩ := hB
  have hx := S.1
  have hb := S.2.1
  have hown : s.vm.findClass RX0 = some m.cls := S.2.2.2.1
  have hts := S.2.2.2.2
  have hS : va_S (cA t) s.heap s.heap [] := va_S.rf
  have hl : lv_has ls 5 [(0, .ref (t.2.1 0)), (1, .int (a)), (2, .int (w)), (3, .int (v))] := hl
  have hn := hV.n.1
  have hn8 := hV.n.2
  refine lv_aload_n hx hb dX0_change_0 rfl (lv_at hl 0 rfl) ?_
  refine lv_iload_n hx hb dX0_change_1 rfl (lv_at hl 1 rfl) ?_
  refine cc_isCask S hK hP (rm_ok (Nat.le_of_ble_eq_true rfl)) hl.1 (b) hV (Nat.le_of_ble_eq_true rfl) dX0_change_2 ?_
  refine kb_ifeq (tgt := 16) S dX0_change_5 (by decide) (fun c_5 => ?_) (fun c_5 => ?_)
  · skip
    refine lv_aload_n hx hb dX0_change_16 rfl (lv_at hl 0 rfl) ?_
    refine lv_iconst (v := 0) hx hb dX0_change_17 (by decide) ?_
    refine cc_finding S hK hP hS (rm_ok (Nat.le_of_ble_eq_true rfl)) hl.1 (0) (by omega) rfl (Nat.le_of_ble_eq_true rfl) dX0_change_18 (fun H locs hP hS => ?_)
    have ho : o_change r a w v = (fnd 0, r, some 0) := by first | (simp only [o_change, c_5, reduceIte, and_self, oF, oK]; done) | (simp [o_change, oF, oK, fnd, c_5]; done) | (unfold o_change oF oK; grind)
    exact kk_iretW S hr hlk hS (by rw [ho]; exact hP) (by rw [ho]) dX0_change_21
  · skip
    obtain ⟨a_, ha_, rfl⟩ := nat_of_lt (n := pN r) (hn) (by omega) c_5
    have hcl_a_ := nI_clamp (n := a_) (by omega)
    refine lv_iload_n hx hb dX0_change_8 rfl (lv_at hl 2 rfl) ?_
    refine lv_iload_n hx hb dX0_change_9 rfl (lv_at hl 3 rfl) ?_
    refine cc_isTold S (rm_ok (Nat.le_of_ble_eq_true rfl)) hl.1 (Nat.le_of_ble_eq_true rfl) dX0_change_10 ?_
    refine kb_ifne (tgt := 22) S dX0_change_13 (by decide) (fun c_13 => ?_) (fun c_13 => ?_)
    · skip
      obtain ⟨w_, hw_, rfl⟩ := nat_of_le (n := 6) (rfl) (by omega) c_13.1
      have hcl_w_ := nI_clamp (n := w_) (by omega)
      refine lv_aload_n hx hb dX0_change_22 rfl (lv_at hl 0 rfl) ?_
      refine cg_d S hK hP dX0_change_23 ?_
      refine cd_cask S hK hP dX0_change_26 ?_
      refine lv_iload_n hx hb dX0_change_29 rfl (lv_at hl 2 rfl) ?_
      refine ck_aald S hK hP (w_) (by omega) rfl dX0_change_30 ?_
      refine lv_iload_n hx hb dX0_change_31 rfl (lv_at hl 1 rfl) ?_
      refine ck_ldc S hK hP (w_) (by omega) (a_) (by omega) rfl dX0_change_32 ?_
      refine lv_istore (lv' := [(4, .int (r (16 + 7 * a_ + w_))), (0, .ref (t.2.1 0)), (1, .int ((nI a_))), (2, .int ((nI w_))), (3, .int (v))]) hx hb dX0_change_33 hl (by decide) rfl (fun ls hl => ?_)
      refine lv_aload_n hx hb dX0_change_35 rfl (lv_at hl 1 rfl) ?_
      refine cg_d S hK hP dX0_change_36 ?_
      refine cd_cask S hK hP dX0_change_39 ?_
      refine lv_iload_n hx hb dX0_change_42 rfl (lv_at hl 3 rfl) ?_
      refine ck_aald S hK hP (w_) (by omega) rfl dX0_change_43 ?_
      refine lv_iload_n hx hb dX0_change_44 rfl (lv_at hl 2 rfl) ?_
      refine lv_iload_n hx hb dX0_change_45 rfl (lv_at hl 4 rfl) ?_
      refine ck_stc S hK hP hS (fun _ h => h) (w_) (by omega) (a_) (by omega) rfl dX0_change_46 (fun H locs hP hS => ?_)
      refine lv_iload hx hb dX0_change_47 (lv_at hl 0 rfl) ?_
      have ho : o_change r (nI a_) (nI w_) v = (r (16 + 7 * a_ + w_), (upd r (16 + 7 * a_ + w_) v), none) := by first | (simp only [o_change, c_5, c_13, hcl_a_, hcl_w_, reduceIte, and_self, oF, oK]; done) | (simp [o_change, oF, oK, fnd, c_5, c_13, hcl_a_, hcl_w_]; done) | (unfold o_change oF oK; grind)
      exact kk_iretW S hr hlk hS (by rw [ho]; exact hP) (by rw [ho]) dX0_change_49
    · skip
      refine lv_aload_n hx hb dX0_change_16 rfl (lv_at hl 0 rfl) ?_
      refine lv_iconst (v := 0) hx hb dX0_change_17 (by decide) ?_
      refine cc_finding S hK hP hS (rm_ok (Nat.le_of_ble_eq_true rfl)) hl.1 (0) (by omega) rfl (Nat.le_of_ble_eq_true rfl) dX0_change_18 (fun H locs hP hS => ?_)
      have ho : o_change r (nI a_) w v = (fnd 0, r, some 0) := by first | (simp only [o_change, c_5, c_13, hcl_a_, reduceIte, and_self, oF, oK]; done) | (simp [o_change, oF, oK, fnd, c_5, c_13, hcl_a_]; done) | (unfold o_change oF oK; grind)
      exact kk_iretW S hr hlk hS (by rw [ho]; exact hP) (by rw [ho]) dX0_change_21
set_option maxHeartbeats 4000000 in
set_option maxRecDepth 100000 in
theorem k0_sell (l : Launch) (t : CT) (r : Rw) (x : Nat → Rw) (a : Int32) (b : Nat) (hV : pV b r) : Met l yX0_sell (ws_ yX0_sell cX0_sell 3 (some .int)) (rmF 6) (va_Pc [.ref (t.2.1 0), .int a] (fun U => cK t U ∧ cX t r x U.heap)) (kW (some (.int ((o_sell r a).1))) (cX t ((o_sell r a).2.1) (fx x (o_sell r a).2.2)) (cA t)) 0 0 (cA t) := by
  refine kk_start (by decide) (Nat.le_of_ble_eq_true rfl) ?_
  intro p e s m below meth c S hr hlk hin hB ls hl
  obtain ⟨hK, hP⟩ := hB
  have hx := S.1
  have hb := S.2.1
  have hown : s.vm.findClass RX0 = some m.cls := S.2.2.2.1
  have hts := S.2.2.2.2
  have hS : va_S (cA t) s.heap s.heap [] := va_S.rf
  have hl : lv_has ls 3 [(0, .ref (t.2.1 0)), (1, .int (a))] := hl
  have hn := hV.n.1
  have hn8 := hV.n.2
  refine lv_aload_n hx hb dX0_sell_0 rfl (lv_at hl 0 rfl) ?_
  refine lv_iload_n hx hb dX0_sell_1 rfl (lv_at hl 1 rfl) ?_
  refine cc_isCask S hK hP (rm_ok (Nat.le_of_ble_eq_true rfl)) hl.1 (b) hV (Nat.le_of_ble_eq_true rfl) dX0_sell_2 ?_
  refine kb_ifne (tgt := 14) S dX0_sell_5 (by decide) (fun c_5 => ?_) (fun c_5 => ?_)
  · skip
    obtain ⟨a_, ha_, rfl⟩ := nat_of_lt (n := pN r) (hn) (by omega) c_5
    have hcl_a_ := nI_clamp (n := a_) (by omega)
    refine lv_aload_n hx hb dX0_sell_14 rfl (lv_at hl 0 rfl) ?_
    refine lv_iload_n hx hb dX0_sell_15 rfl (lv_at hl 1 rfl) ?_
    refine cc_loudOf S hK hP (rm_ok (Nat.le_of_ble_eq_true rfl)) hl.1 (a_) (b) (by omega) hV rfl (Nat.le_of_ble_eq_true rfl) dX0_sell_16 ?_
    refine lv_istore_n (lv' := [(2, .int (p_loud r a_)), (0, .ref (t.2.1 0)), (1, .int ((nI a_)))]) hx hb dX0_sell_19 rfl hl (by decide) rfl (fun ls hl => ?_)
    refine lv_aload_n hx hb dX0_sell_20 rfl (lv_at hl 1 rfl) ?_
    refine cg_d S hK hP dX0_sell_21 ?_
    refine lv_iload_n hx hb dX0_sell_24 rfl (lv_at hl 2 rfl) ?_
    refine d0_empties S hK hP hS (rm_ok (Nat.le_of_ble_eq_true rfl)) hl.1 (a_) (by omega) rfl (Nat.le_of_ble_eq_true rfl) dX0_sell_25 (fun H locs hP hS => ?_)
    refine lv_iload_n hx hb dX0_sell_28 rfl (lv_at hl 0 rfl) ?_
    have ho : o_sell r (nI a_) = (p_loud r a_, (p_clear r a_), none) := by first | (simp only [o_sell, c_5, hcl_a_, reduceIte, and_self, oF, oK]; done) | (simp [o_sell, oF, oK, fnd, c_5, hcl_a_]; done) | (unfold o_sell oF oK; grind)
    exact kk_iretW S hr hlk hS (by rw [ho]; exact hP) (by rw [ho]) dX0_sell_29
  · skip
    refine lv_aload_n hx hb dX0_sell_8 rfl (lv_at hl 0 rfl) ?_
    refine lv_iconst (v := 0) hx hb dX0_sell_9 (by decide) ?_
    refine cc_finding S hK hP hS (rm_ok (Nat.le_of_ble_eq_true rfl)) hl.1 (0) (by omega) rfl (Nat.le_of_ble_eq_true rfl) dX0_sell_10 (fun H locs hP hS => ?_)
    have ho : o_sell r a = (fnd 0, r, some 0) := by first | (simp only [o_sell, c_5, reduceIte, and_self, oF, oK]; done) | (simp [o_sell, oF, oK, fnd, c_5]; done) | (unfold o_sell oF oK; grind)
    exact kk_iretW S hr hlk hS (by rw [ho]; exact hP) (by rw [ho]) dX0_sell_13
set_option maxHeartbeats 4000000 in
set_option maxRecDepth 100000 in
theorem k0_go (l : Launch) (t : CT) (r : Rw) (x : Nat → Rw) (n : Int32) (b : Nat) (hV : pV b r) (hb : b ≤ 99999) : Met l yX0_go (ws_ yX0_go cX0_go 2 (some .int)) (rmF 10) (va_Pc [.ref (t.2.1 0), .int n] (fun U => cK t U ∧ cX t r x U.heap)) (kW (some (.int ((o_go r n).1))) (cX t ((o_go r n).2.1) (fx x (o_go r n).2.2)) (cA t)) 0 0 (cA t) := by
  refine kk_start (by decide) (Nat.le_of_ble_eq_true rfl) ?_
  intro p e s m below meth c S hr hlk hin hB ls hl
  obtain ⟨hK, hP⟩ := hB
  have hx := S.1
  have hb := S.2.1
  have hown : s.vm.findClass RX0 = some m.cls := S.2.2.2.1
  have hts := S.2.2.2.2
  have hS : va_S (cA t) s.heap s.heap [] := va_S.rf
  have hl : lv_has ls 2 [(0, .ref (t.2.1 0)), (1, .int (n))] := hl
  have hn := hV.n.1
  have hn8 := hV.n.2
  have hd := (hV.d (by omega)).1
  have hdb := (hV.d (by omega)).2
  refine lv_iload_n hx hb dX0_go_0 rfl (lv_at hl 1 rfl) ?_
  refine lv_iconst (v := 1) hx hb dX0_go_1 (by decide) ?_
  refine lv_bipush (v := 60) hx hb dX0_go_2 (by decide) ?_
  refine cc_in S (rm_ok (Nat.le_of_ble_eq_true rfl)) hl.1 (Nat.le_of_ble_eq_true rfl) dX0_go_4 ?_
  refine kb_ifne (tgt := 16) S dX0_go_7 (by decide) (fun c_7 => ?_) (fun c_7 => ?_)
  · skip
    obtain ⟨n_, hn_, rfl⟩ := nat_of_1 (n := 60) (rfl) (by omega) c_7
    have hcl_n_ := nI_clamp (n := n_) (by omega)
    refine lv_aload_n hx hb dX0_go_16 rfl (lv_at hl 0 rfl) ?_
    refine cg_d S hK hP dX0_go_17 ?_
    refine lv_iload_n hx hb dX0_go_20 rfl (lv_at hl 1 rfl) ?_
    refine d0_isLate S hK hP (rm_ok (Nat.le_of_ble_eq_true rfl)) hl.1 (n_) (b) hV (by omega) (by omega) rfl (Nat.le_of_ble_eq_true rfl) dX0_go_21 ?_
    refine kb_ifeq (tgt := 35) S dX0_go_24 (by decide) (fun c_24 => ?_) (fun c_24 => ?_)
    · skip
      refine lv_aload_n hx hb dX0_go_35 rfl (lv_at hl 0 rfl) ?_
      refine lv_iload_n hx hb dX0_go_36 rfl (lv_at hl 1 rfl) ?_
      refine cc_goesOn S hK hP hS (rm_ok (Nat.le_of_ble_eq_true rfl)) hl.1 (n_) (b) hV (by omega) rfl (Nat.le_of_ble_eq_true rfl) dX0_go_37 (fun H locs hP hS => ?_)
      have ho : o_go r (nI n_) = (p_goes n_ r 3, (p_goes n_ r), none) := by first | (simp only [o_go, c_7, c_24, hcl_n_, reduceIte, and_self, oF, oK]; done) | (simp [o_go, oF, oK, fnd, c_7, c_24, hcl_n_]; done) | (unfold o_go oF oK; grind)
      exact kk_iretW S hr hlk hS (by rw [ho]; exact hP) (by rw [ho]) dX0_go_40
    · skip
      refine lv_aload_n hx hb dX0_go_27 rfl (lv_at hl 0 rfl) ?_
      refine lv_iconst (v := 4) hx hb dX0_go_28 (by decide) ?_
      refine cc_finding S hK hP hS (rm_ok (Nat.le_of_ble_eq_true rfl)) hl.1 (4) (by omega) rfl (Nat.le_of_ble_eq_true rfl) dX0_go_29 (fun H locs hP hS => ?_)
      refine lv_goto (tgt := 40) hx hb dX0_go_32 (by decide) ?_
      have ho : o_go r (nI n_) = (fnd 4, r, some 4) := by first | (simp only [o_go, c_7, c_24, hcl_n_, reduceIte, and_self, oF, oK]; done) | (simp [o_go, oF, oK, fnd, c_7, c_24, hcl_n_]; done) | (unfold o_go oF oK; grind)
      exact kk_iretW S hr hlk hS (by rw [ho]; exact hP) (by rw [ho]) dX0_go_40
  · skip
    refine lv_aload_n hx hb dX0_go_10 rfl (lv_at hl 0 rfl) ?_
    refine lv_iconst (v := 0) hx hb dX0_go_11 (by decide) ?_
    refine cc_finding S hK hP hS (rm_ok (Nat.le_of_ble_eq_true rfl)) hl.1 (0) (by omega) rfl (Nat.le_of_ble_eq_true rfl) dX0_go_12 (fun H locs hP hS => ?_)
    have ho : o_go r n = (fnd 0, r, some 0) := by first | (simp only [o_go, c_7, reduceIte, and_self, oF, oK]; done) | (simp [o_go, oF, oK, fnd, c_7]; done) | (unfold o_go oF oK; grind)
    exact kk_iretW S hr hlk hS (by rw [ho]; exact hP) (by rw [ho]) dX0_go_15
section CC
variable {p : Program} {l : Launch} {e : Env} {R : Room} {s : State} {m : MethodId} {args : Array Value} {below : List Frame} {meth : Method} {c : Code} {H H0 : Heap} {locs : List Loc} {cells slots : Nat} {Q : State → Prop}
variable {cc : ByteArray} {pc nL : Nat} {ls : Array Slot} {rest : List Value} {t : CT} {r : Rw} {x : Nat → Rw}
end CC

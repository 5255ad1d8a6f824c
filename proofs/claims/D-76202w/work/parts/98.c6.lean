/-! COMPONENT: spots and what they hold -/
theorem pV.sp2 {b : Nat} {r : Rw} (h : pV b r) {k : Nat} (hk : k < 10) : r (72 + k) = -1 ∨ ∃ i, i < 8 ∧ r (72 + k) = nI i := h.2.2.2 k hk
section CV
variable {p : Program} {l : Launch} {e : Env} {R : Room} {s : State} {m : MethodId} {args : Array Value} {below : List Frame} {meth : Method} {c : Code} {H : Heap} {locs : List Loc} {cells slots : Nat} {Q : State → Prop}
variable {pc : Nat} {ls : Array Slot} {rest : List Value}
theorem kb_val {x y : Value} (h : x = y) (k : W p l e R s m args below meth c H locs cells slots Q (F0 m pc ls (y :: rest))) : W p l e R s m args below meth c H locs cells slots Q (F0 m pc ls (x :: rest)) := by rw [h]; exact k
end CV
theorem cSp_n (t : CT) : cSp t (-1) = .null := if_pos rfl
theorem cSp_k (t : CT) {j : Nat} (hj : j < 56) : cSp t (nI j) = .ref (t.2.1 (600 + j)) := by
  unfold cSp
  rw [if_neg (fun e => absurd (nI_pos' (n := j) (by omega)) (by rw [e]; decide)), nI_clamp (by omega)]
section CC
variable {p : Program} {l : Launch} {e : Env} {R : Room} {s : State} {m : MethodId} {args : Array Value} {below : List Frame} {meth : Method} {c : Code} {H H0 : Heap} {locs : List Loc} {cells slots : Nat} {Q : State → Prop}
variable {cc : ByteArray} {pc nL : Nat} {ls : Array Slot} {rest : List Value} {t : CT} {r : Rw} {x : Nat → Rw}
theorem ck_to1 (S : CallFix p m c cc nL s args lw_all RX0) (hK : cK t s) (hP : cX t r x H) (k : Nat) (hk : k < 8) (b : Nat) (hV : pV b r) (hu : p_under (r (16 + 7 * k)) 1) (hdg : decode cc pc = .ok (.checkcast 20, 3)) (kk : W p l e R s m args below meth c H locs cells slots Q (F0 m (pc + 3) ls (.ref (t.2.1 (600 + (8 * pK r k + k))) :: rest))) : W p l e R s m args below meth c H locs cells slots Q (F0 m pc ls (.ref (t.2.1 (600 + (8 * pK r k + k))) :: rest)) := by
  have hkk := (hV.k hk).2
  have hke := (hV.k hk).1
  revert hu kk
  rcases (show pK r k = 0 ∨ pK r k = 1 ∨ pK r k = 2 ∨ pK r k = 3 ∨ pK r k = 4 ∨ pK r k = 5 ∨ pK r k = 6 by omega) with e | e | e | e | e | e | e <;> rw [e] <;> rw [hke, e] <;> intro hu kk
  · exact absurd hu (by decide)
  · exact va_castS (cC := t.1.1 7) S.1 S.2.1 S.2.2.2.1 (S.2.2.2.2 _ q317) (hK.1.1 7 _ rfl).2 (c_recv1 hK hP hk) hdg kk
  · exact absurd hu (by decide)
  · exact absurd hu (by decide)
  · exact absurd hu (by decide)
  · exact absurd hu (by decide)
  · exact va_castY (C := "ThunderCasks$Forged") S.1 S.2.1 S.2.2.2.1 (S.2.2.2.2 _ q317) (hK.c (w := ("ThunderCasks$Forged", "ThunderCasks$Crack")) 15 rfl) (c_recv6 hK hP hk) hdg kk
theorem ck_to2 (S : CallFix p m c cc nL s args lw_all RX0) (hK : cK t s) (hP : cX t r x H) (k : Nat) (hk : k < 8) (b : Nat) (hV : pV b r) (hu : p_under (r (16 + 7 * k)) 2) (hdg : decode cc pc = .ok (.checkcast 26, 3)) (kk : W p l e R s m args below meth c H locs cells slots Q (F0 m (pc + 3) ls (.ref (t.2.1 (600 + (8 * pK r k + k))) :: rest))) : W p l e R s m args below meth c H locs cells slots Q (F0 m pc ls (.ref (t.2.1 (600 + (8 * pK r k + k))) :: rest)) := by
  have hkk := (hV.k hk).2
  have hke := (hV.k hk).1
  revert hu kk
  rcases (show pK r k = 0 ∨ pK r k = 1 ∨ pK r k = 2 ∨ pK r k = 3 ∨ pK r k = 4 ∨ pK r k = 5 ∨ pK r k = 6 by omega) with e | e | e | e | e | e | e <;> rw [e] <;> rw [hke, e] <;> intro hu kk
  · exact absurd hu (by decide)
  · exact absurd hu (by decide)
  · exact va_castS (cC := t.1.1 8) S.1 S.2.1 S.2.2.2.1 (S.2.2.2.2 _ q337) (hK.1.1 8 _ rfl).2 (c_recv2 hK hP hk) hdg kk
  · exact va_castY (C := "ThunderCasks$Mellow") S.1 S.2.1 S.2.2.2.1 (S.2.2.2.2 _ q337) (hK.c (w := ("ThunderCasks$Mellow", "ThunderCasks$Roll")) 17 rfl) (c_recv3 hK hP hk) hdg kk
  · exact va_castY (C := "ThunderCasks$Echo") S.1 S.2.1 S.2.2.2.1 (S.2.2.2.2 _ q337) (hK.c (w := ("ThunderCasks$Echo", "ThunderCasks$Roll")) 16 rfl) (c_recv4 hK hP hk) hdg kk
  · exact absurd hu (by decide)
  · exact absurd hu (by decide)
theorem ck_to3 (S : CallFix p m c cc nL s args lw_all RX0) (hK : cK t s) (hP : cX t r x H) (k : Nat) (hk : k < 8) (b : Nat) (hV : pV b r) (hu : p_under (r (16 + 7 * k)) 3) (hdg : decode cc pc = .ok (.checkcast 29, 3)) (kk : W p l e R s m args below meth c H locs cells slots Q (F0 m (pc + 3) ls (.ref (t.2.1 (600 + (8 * pK r k + k))) :: rest))) : W p l e R s m args below meth c H locs cells slots Q (F0 m pc ls (.ref (t.2.1 (600 + (8 * pK r k + k))) :: rest)) := by
  have hkk := (hV.k hk).2
  have hke := (hV.k hk).1
  revert hu kk
  rcases (show pK r k = 0 ∨ pK r k = 1 ∨ pK r k = 2 ∨ pK r k = 3 ∨ pK r k = 4 ∨ pK r k = 5 ∨ pK r k = 6 by omega) with e | e | e | e | e | e | e <;> rw [e] <;> rw [hke, e] <;> intro hu kk
  · exact absurd hu (by decide)
  · exact absurd hu (by decide)
  · exact absurd hu (by decide)
  · exact va_castS (cC := t.1.1 9) S.1 S.2.1 S.2.2.2.1 (S.2.2.2.2 _ q349) (hK.1.1 9 _ rfl).2 (c_recv3 hK hP hk) hdg kk
  · exact va_castY (C := "ThunderCasks$Echo") S.1 S.2.1 S.2.2.2.1 (S.2.2.2.2 _ q349) (hK.c (w := ("ThunderCasks$Echo", "ThunderCasks$Mellow")) 18 rfl) (c_recv4 hK hP hk) hdg kk
  · exact absurd hu (by decide)
  · exact absurd hu (by decide)
theorem ck_to4 (S : CallFix p m c cc nL s args lw_all RX0) (hK : cK t s) (hP : cX t r x H) (k : Nat) (hk : k < 8) (b : Nat) (hV : pV b r) (hu : p_under (r (16 + 7 * k)) 4) (hdg : decode cc pc = .ok (.checkcast 32, 3)) (kk : W p l e R s m args below meth c H locs cells slots Q (F0 m (pc + 3) ls (.ref (t.2.1 (600 + (8 * pK r k + k))) :: rest))) : W p l e R s m args below meth c H locs cells slots Q (F0 m pc ls (.ref (t.2.1 (600 + (8 * pK r k + k))) :: rest)) := by
  have hkk := (hV.k hk).2
  have hke := (hV.k hk).1
  revert hu kk
  rcases (show pK r k = 0 ∨ pK r k = 1 ∨ pK r k = 2 ∨ pK r k = 3 ∨ pK r k = 4 ∨ pK r k = 5 ∨ pK r k = 6 by omega) with e | e | e | e | e | e | e <;> rw [e] <;> rw [hke, e] <;> intro hu kk
  · exact absurd hu (by decide)
  · exact absurd hu (by decide)
  · exact absurd hu (by decide)
  · exact absurd hu (by decide)
  · exact va_castS (cC := t.1.1 10) S.1 S.2.1 S.2.2.2.1 (S.2.2.2.2 _ q362) (hK.1.1 10 _ rfl).2 (c_recv4 hK hP hk) hdg kk
  · exact absurd hu (by decide)
  · exact absurd hu (by decide)
theorem ck_to5 (S : CallFix p m c cc nL s args lw_all RX0) (hK : cK t s) (hP : cX t r x H) (k : Nat) (hk : k < 8) (b : Nat) (hV : pV b r) (hu : p_under (r (16 + 7 * k)) 5) (hdg : decode cc pc = .ok (.checkcast 35, 3)) (kk : W p l e R s m args below meth c H locs cells slots Q (F0 m (pc + 3) ls (.ref (t.2.1 (600 + (8 * pK r k + k))) :: rest))) : W p l e R s m args below meth c H locs cells slots Q (F0 m pc ls (.ref (t.2.1 (600 + (8 * pK r k + k))) :: rest)) := by
  have hkk := (hV.k hk).2
  have hke := (hV.k hk).1
  revert hu kk
  rcases (show pK r k = 0 ∨ pK r k = 1 ∨ pK r k = 2 ∨ pK r k = 3 ∨ pK r k = 4 ∨ pK r k = 5 ∨ pK r k = 6 by omega) with e | e | e | e | e | e | e <;> rw [e] <;> rw [hke, e] <;> intro hu kk
  · exact absurd hu (by decide)
  · exact absurd hu (by decide)
  · exact absurd hu (by decide)
  · exact absurd hu (by decide)
  · exact absurd hu (by decide)
  · exact va_castS (cC := t.1.1 11) S.1 S.2.1 S.2.2.2.1 (S.2.2.2.2 _ q376) (hK.1.1 11 _ rfl).2 (c_recv5 hK hP hk) hdg kk
  · exact absurd hu (by decide)
theorem ck_to6 (S : CallFix p m c cc nL s args lw_all RX0) (hK : cK t s) (hP : cX t r x H) (k : Nat) (hk : k < 8) (b : Nat) (hV : pV b r) (hu : p_under (r (16 + 7 * k)) 6) (hdg : decode cc pc = .ok (.checkcast 38, 3)) (kk : W p l e R s m args below meth c H locs cells slots Q (F0 m (pc + 3) ls (.ref (t.2.1 (600 + (8 * pK r k + k))) :: rest))) : W p l e R s m args below meth c H locs cells slots Q (F0 m pc ls (.ref (t.2.1 (600 + (8 * pK r k + k))) :: rest)) := by
  have hkk := (hV.k hk).2
  have hke := (hV.k hk).1
  revert hu kk
  rcases (show pK r k = 0 ∨ pK r k = 1 ∨ pK r k = 2 ∨ pK r k = 3 ∨ pK r k = 4 ∨ pK r k = 5 ∨ pK r k = 6 by omega) with e | e | e | e | e | e | e <;> rw [e] <;> rw [hke, e] <;> intro hu kk
  · exact absurd hu (by decide)
  · exact absurd hu (by decide)
  · exact absurd hu (by decide)
  · exact absurd hu (by decide)
  · exact absurd hu (by decide)
  · exact absurd hu (by decide)
  · exact va_castS (cC := t.1.1 12) S.1 S.2.1 S.2.2.2.1 (S.2.2.2.2 _ q388) (hK.1.1 12 _ rfl).2 (c_recv6 hK hP hk) hdg kk
theorem ck_isCask (S : CallFix p m c cc nL s args lw_all RX0) (hK : cK t s) (hP : cX t r x H) (k : Nat) (hk : k < 8) (b : Nat) (hV : pV b r) (hdg : decode cc pc = .ok (.instanceof 41, 3)) (kk : W p l e R s m args below meth c H locs cells slots Q (F0 m (pc + 3) ls (.int 1 :: rest))) : W p l e R s m args below meth c H locs cells slots Q (F0 m pc ls (.ref (t.2.1 (600 + (8 * pK r k + k))) :: rest)) := by
  have hkk := (hV.k hk).2
  have hke := (hV.k hk).1
  revert kk
  rcases (show pK r k = 0 ∨ pK r k = 1 ∨ pK r k = 2 ∨ pK r k = 3 ∨ pK r k = 4 ∨ pK r k = 5 ∨ pK r k = 6 by omega) with e | e | e | e | e | e | e <;> rw [e] <;> intro kk
  · exact va_instS (cC := t.1.1 6) S.1 S.2.1 S.2.2.2.1 (S.2.2.2.2 _ q401) (hK.1.1 6 _ rfl).2 (c_recv0 hK hP hk) hdg kk
  · exact va_instY (C := "ThunderCasks$Crack") S.1 S.2.1 S.2.2.2.1 (S.2.2.2.2 _ q401) (hK.c (w := ("ThunderCasks$Crack", "ThunderCasks$Cask")) 9 rfl) (c_recv1 hK hP hk) hdg kk
  · exact va_instY (C := "ThunderCasks$Roll") S.1 S.2.1 S.2.2.2.1 (S.2.2.2.2 _ q401) (hK.c (w := ("ThunderCasks$Roll", "ThunderCasks$Cask")) 14 rfl) (c_recv2 hK hP hk) hdg kk
  · exact va_instY (C := "ThunderCasks$Mellow") S.1 S.2.1 S.2.2.2.1 (S.2.2.2.2 _ q401) (hK.c (w := ("ThunderCasks$Mellow", "ThunderCasks$Cask")) 13 rfl) (c_recv3 hK hP hk) hdg kk
  · exact va_instY (C := "ThunderCasks$Echo") S.1 S.2.1 S.2.2.2.1 (S.2.2.2.2 _ q401) (hK.c (w := ("ThunderCasks$Echo", "ThunderCasks$Cask")) 10 rfl) (c_recv4 hK hP hk) hdg kk
  · exact va_instY (C := "ThunderCasks$Heat") S.1 S.2.1 S.2.2.2.1 (S.2.2.2.2 _ q401) (hK.c (w := ("ThunderCasks$Heat", "ThunderCasks$Cask")) 12 rfl) (c_recv5 hK hP hk) hdg kk
  · exact va_instY (C := "ThunderCasks$Forged") S.1 S.2.1 S.2.2.2.1 (S.2.2.2.2 _ q401) (hK.c (w := ("ThunderCasks$Forged", "ThunderCasks$Cask")) 11 rfl) (c_recv6 hK hP hk) hdg kk
theorem ck_num (S : CallFix p m c cc nL s args lw_all RX0) (hK : cK t s) (hP : cX t r x H) (k : Nat) (hk : k < 8) (b : Nat) (hV : pV b r) (hdg : decode cc pc = .ok (.getfield 371, 3)) (kk : W p l e R s m args below meth c H locs cells slots Q (F0 m (pc + 3) ls (.int (nI k) :: rest))) : W p l e R s m args below meth c H locs cells slots Q (F0 m pc ls (.ref (t.2.1 (600 + (8 * pK r k + k))) :: rest)) := by
  have hkk := (hV.k hk).2
  have hke := (hV.k hk).1
  revert kk
  rcases (show pK r k = 0 ∨ pK r k = 1 ∨ pK r k = 2 ∨ pK r k = 3 ∨ pK r k = 4 ∨ pK r k = 5 ∨ pK r k = 6 by omega) with e | e | e | e | e | e | e <;> rw [e] <;> intro kk
  · exact co_get (v := .int (nI k)) S hK.1 (ci := 6) (T := TX6) (N := 2) rfl in_X6 (hP.ob 0 k (by decide) hk) 0 (by decide) (S.2.2.2.2 _ q328) rfl rfl hdg kk
  · exact co_get (v := .int (nI k)) S hK.1 (ci := 7) (T := TX7) (N := 3) rfl in_X7 (hP.ob 1 k (by decide) hk) 0 (by decide) (S.2.2.2.2 _ q328) rfl rfl hdg kk
  · exact co_get (v := .int (nI k)) S hK.1 (ci := 8) (T := TX8) (N := 3) rfl in_X8 (hP.ob 2 k (by decide) hk) 0 (by decide) (S.2.2.2.2 _ q328) rfl rfl hdg kk
  · exact co_get (v := .int (nI k)) S hK.1 (ci := 9) (T := TX9) (N := 4) rfl in_X9 (hP.ob 3 k (by decide) hk) 0 (by decide) (S.2.2.2.2 _ q328) rfl rfl hdg kk
  · exact co_get (v := .int (nI k)) S hK.1 (ci := 10) (T := TX10) (N := 5) rfl in_X10 (hP.ob 4 k (by decide) hk) 0 (by decide) (S.2.2.2.2 _ q328) rfl rfl hdg kk
  · exact co_get (v := .int (nI k)) S hK.1 (ci := 11) (T := TX11) (N := 3) rfl in_X11 (hP.ob 5 k (by decide) hk) 0 (by decide) (S.2.2.2.2 _ q328) rfl rfl hdg kk
  · exact co_get (v := .int (nI k)) S hK.1 (ci := 12) (T := TX12) (N := 4) rfl in_X12 (hP.ob 6 k (by decide) hk) 0 (by decide) (S.2.2.2.2 _ q328) rfl rfl hdg kk
end CC
set_option maxHeartbeats 4000000 in
set_option maxRecDepth 100000 in
theorem k0_thingAtN (l : Launch) (t : CT) (r : Rw) (x : Nat → Rw) (y : Nat) (b : Nat) (hy : y < 10) (hV : pV b r) (hz : r (72 + y) = -1) : Met l yX0_thingAt (ws_ yX0_thingAt cX0_thingAt 3 (some (.object "java/lang/Object"))) (rmF 1) (va_Pc [.ref (t.2.1 0), .int (nI y)] (fun U => cK t U ∧ cX t r x U.heap)) (kW (some (.null)) (cX t (r) (va_up x 11 (upd (x 11) y (-1)))) (cA t)) 0 0 (cA t) := by
  refine kk_start (by decide) (Nat.le_of_ble_eq_true rfl) ?_
  intro p e s m below meth c S hr hlk hin hB ls hl
  obtain ⟨hK, hP⟩ := hB
  have hx := S.1
  have hb := S.2.1
  have hown : s.vm.findClass RX0 = some m.cls := S.2.2.2.1
  have hts := S.2.2.2.2
  have hS : va_S (cA t) s.heap s.heap [] := va_S.rf
  have hl : lv_has ls 3 [(0, .ref (t.2.1 0)), (1, .int ((nI y)))] := hl
  refine lv_aload_n hx hb dX0_thingAt_0 rfl (lv_at hl 0 rfl) ?_
  refine cg_d S hK hP dX0_thingAt_1 ?_
  refine cd_holds S hK hP dX0_thingAt_4 ?_
  refine lv_iload_n hx hb dX0_thingAt_7 rfl (lv_at hl 1 rfl) ?_
  refine ck_ldh S hK hP (y) (by omega) rfl dX0_thingAt_8 ?_
  refine lv_istore_n (lv' := [(2, .int ((r (72 + y)))), (0, .ref (t.2.1 0)), (1, .int ((nI y)))]) hx hb dX0_thingAt_9 rfl hl (by decide) rfl (fun ls hl => ?_)
  refine lv_aload_n hx hb dX0_thingAt_10 rfl (lv_at hl 1 rfl) ?_
  refine cg_spots S hK hP dX0_thingAt_11 ?_
  refine lv_iload_n hx hb dX0_thingAt_14 rfl (lv_at hl 2 rfl) ?_
  refine ca_spots S hK hP (y) (by omega) rfl dX0_thingAt_15 ?_
  refine lv_iload_n hx hb dX0_thingAt_16 rfl (lv_at hl 0 rfl) ?_
  refine lv_iconst (v := (-1)) hx hb dX0_thingAt_17 (by decide) ?_
  refine lv_icmp_ne (tgt := 25) hx hb dX0_thingAt_18 (by decide) (fun c_18 => ?_) (fun c_18 => ?_)
  · exact absurd hz c_18
  · skip
    refine lv_null hx hb dX0_thingAt_21 ?_
    refine lv_goto (tgt := 30) hx hb dX0_thingAt_22 (by decide) ?_
    refine ctp_spots S hK hP hS (fun _ h => h) (y) (by omega) (-1) (cSp_n t) rfl rfl dX0_thingAt_30 (fun H locs hP hS => ?_)
    refine lv_aload_n hx hb dX0_thingAt_33 rfl (lv_at hl 1 rfl) ?_
    refine cg_spots S hK hP dX0_thingAt_34 ?_
    refine lv_iload_n hx hb dX0_thingAt_37 rfl (lv_at hl 2 rfl) ?_
    refine ca_spots S hK hP (y) (by omega) rfl dX0_thingAt_38 ?_
    refine ct_spots S hK hP (y) (by omega) dX0_thingAt_39 ?_
    refine kb_val (y := .null) ?_ ?_
    · show cSp t (upd (x 11) y (-1) y) = .null
      rw [upd, if_pos rfl]; exact cSp_n t
    exact kk_aretW S hr (Or.inl ⟨_, rfl⟩) (Or.inl rfl) hlk hS (hP) (rfl) dX0_thingAt_42
set_option maxHeartbeats 4000000 in
set_option maxRecDepth 100000 in
theorem k0_thingAt (l : Launch) (t : CT) (r : Rw) (x : Nat → Rw) (y : Nat) (k : Nat) (b : Nat) (hy : y < 10) (hk : k < 8) (hV : pV b r) (hz : r (72 + y) = nI k) : Met l yX0_thingAt (ws_ yX0_thingAt cX0_thingAt 3 (some (.object "java/lang/Object"))) (rmF 1) (va_Pc [.ref (t.2.1 0), .int (nI y)] (fun U => cK t U ∧ cX t r x U.heap)) (kW (some (.ref (t.2.1 (600 + (8 * pK r k + k))))) (cX t (r) (va_up x 11 (upd (x 11) y (nI (8 * pK r k + k))))) (cA t)) 0 0 (cA t) := by
  refine kk_start (by decide) (Nat.le_of_ble_eq_true rfl) ?_
  intro p e s m below meth c S hr hlk hin hB ls hl
  obtain ⟨hK, hP⟩ := hB
  have hx := S.1
  have hb := S.2.1
  have hown : s.vm.findClass RX0 = some m.cls := S.2.2.2.1
  have hts := S.2.2.2.2
  have hS : va_S (cA t) s.heap s.heap [] := va_S.rf
  have hl : lv_has ls 3 [(0, .ref (t.2.1 0)), (1, .int ((nI y)))] := hl
  have hk7 := (hV.k hk).2
  refine lv_aload_n hx hb dX0_thingAt_0 rfl (lv_at hl 0 rfl) ?_
  refine cg_d S hK hP dX0_thingAt_1 ?_
  refine cd_holds S hK hP dX0_thingAt_4 ?_
  refine lv_iload_n hx hb dX0_thingAt_7 rfl (lv_at hl 1 rfl) ?_
  refine ck_ldh S hK hP (y) (by omega) rfl dX0_thingAt_8 ?_
  refine kb_nat (y := nI (k)) hz ?_
  refine lv_istore_n (lv' := [(2, .int ((nI k))), (0, .ref (t.2.1 0)), (1, .int ((nI y)))]) hx hb dX0_thingAt_9 rfl hl (by decide) rfl (fun ls hl => ?_)
  refine lv_aload_n hx hb dX0_thingAt_10 rfl (lv_at hl 1 rfl) ?_
  refine cg_spots S hK hP dX0_thingAt_11 ?_
  refine lv_iload_n hx hb dX0_thingAt_14 rfl (lv_at hl 2 rfl) ?_
  refine ca_spots S hK hP (y) (by omega) rfl dX0_thingAt_15 ?_
  refine lv_iload_n hx hb dX0_thingAt_16 rfl (lv_at hl 0 rfl) ?_
  refine lv_iconst (v := (-1)) hx hb dX0_thingAt_17 (by decide) ?_
  refine lv_icmp_ne (tgt := 25) hx hb dX0_thingAt_18 (by decide) (fun c_18 => ?_) (fun c_18 => ?_)
  · skip
    refine lv_aload_n hx hb dX0_thingAt_25 rfl (lv_at hl 1 rfl) ?_
    refine lv_iload_n hx hb dX0_thingAt_26 rfl (lv_at hl 0 rfl) ?_
    refine cc_caskOf S hK hP (rm_ok (Nat.le_of_ble_eq_true rfl)) hl.1 (k) (b) (by omega) hV rfl (Nat.le_of_ble_eq_true rfl) dX0_thingAt_27 ?_
    refine ctp_spots S hK hP hS (fun _ h => h) (y) (by omega) (nI (8 * pK r k + k)) (cSp_k t (by omega)) rfl rfl dX0_thingAt_30 (fun H locs hP hS => ?_)
    refine lv_aload_n hx hb dX0_thingAt_33 rfl (lv_at hl 1 rfl) ?_
    refine cg_spots S hK hP dX0_thingAt_34 ?_
    refine lv_iload_n hx hb dX0_thingAt_37 rfl (lv_at hl 2 rfl) ?_
    refine ca_spots S hK hP (y) (by omega) rfl dX0_thingAt_38 ?_
    refine ct_spots S hK hP (y) (by omega) dX0_thingAt_39 ?_
    refine kb_val (y := .ref (t.2.1 (600 + (8 * pK r k + k)))) ?_ ?_
    · show cSp t (upd (x 11) y (nI (8 * pK r k + k)) y) = _
      rw [upd, if_pos rfl]; exact cSp_k t (by omega)
    exact kk_aretW S hr (Or.inl ⟨_, rfl⟩) (Or.inr ⟨_, rfl⟩) hlk hS (hP) (rfl) dX0_thingAt_42
  · exact absurd (nI_pos' (n := k) (by omega)) (by rw [c_18]; decide)
set_option maxHeartbeats 4000000 in
set_option maxRecDepth 100000 in
theorem k0_cast (l : Launch) (t : CT) (r : Rw) (x : Nat → Rw) (k : Nat) (w : Nat) (b : Nat) (hk : k < 8) (hV : pV b r) (hw : w ≤ 6) (hu : p_under (r (16 + 7 * k)) (nI w)) : Met l yX0_cast (ws_ yX0_cast cX0_cast 2 (some (.object "ThunderCasks$Cask"))) (rmF 0) (va_Pc [.ref (t.2.1 (600 + (8 * pK r k + k))), .int (nI w)] (fun U => cK t U ∧ cX t r x U.heap)) (kR (some (.ref (t.2.1 (600 + (8 * pK r k + k)))))) 0 0 (fun _ => False) := by
  refine kk_start (by decide) (Nat.le_of_ble_eq_true rfl) ?_
  intro p e s m below meth c S hr hlk hin hB ls hl
  obtain ⟨hK, hP⟩ := hB
  have hx := S.1
  have hb := S.2.1
  have hown : s.vm.findClass RX0 = some m.cls := S.2.2.2.1
  have hts := S.2.2.2.2
  have hl : lv_has ls 2 [(0, .ref (t.2.1 (600 + (8 * pK r k + k)))), (1, .int ((nI w)))] := hl
  refine lv_iload_n hx hb dX0_cast_0 rfl (lv_at hl 1 rfl) ?_
  rcases (show w = 0 ∨ w = 1 ∨ w = 2 ∨ w = 3 ∨ w = 4 ∨ w = 5 ∨ w = 6 by omega) with c_1 | c_1 | c_1 | c_1 | c_1 | c_1 | c_1
  · skip
    refine kb_tabOut (tgt := 70) S ((rfl).trans (congrArg nI c_1)) (by decide) dX0_cast_1 (by decide) (by decide) ?_
    refine lv_aload_n hx hb dX0_cast_70 rfl (lv_at hl 0 rfl) ?_
    refine ck_cask S hK hP (k) hk b hV dX0_cast_71 ?_
    exact kk_aretR S hr (Or.inl ⟨_, rfl⟩) (Or.inr ⟨_, rfl⟩) hlk rfl rfl (rfl) dX0_cast_74
  · skip
    refine kb_tabIn (tgt := 40) S ((rfl).trans (congrArg nI c_1)) (by decide) dX0_cast_1 (by decide) (by decide) rfl (by decide) ?_
    refine lv_aload_n hx hb dX0_cast_40 rfl (lv_at hl 0 rfl) ?_
    refine ck_to1 S hK hP (k) hk b hV (by rw [c_1] at hu; exact hu) dX0_cast_41 ?_
    exact kk_aretR S hr (Or.inl ⟨_, rfl⟩) (Or.inr ⟨_, rfl⟩) hlk rfl rfl (rfl) dX0_cast_44
  · skip
    refine kb_tabIn (tgt := 45) S ((rfl).trans (congrArg nI c_1)) (by decide) dX0_cast_1 (by decide) (by decide) rfl (by decide) ?_
    refine lv_aload_n hx hb dX0_cast_45 rfl (lv_at hl 0 rfl) ?_
    refine ck_to2 S hK hP (k) hk b hV (by rw [c_1] at hu; exact hu) dX0_cast_46 ?_
    exact kk_aretR S hr (Or.inl ⟨_, rfl⟩) (Or.inr ⟨_, rfl⟩) hlk rfl rfl (rfl) dX0_cast_49
  · skip
    refine kb_tabIn (tgt := 50) S ((rfl).trans (congrArg nI c_1)) (by decide) dX0_cast_1 (by decide) (by decide) rfl (by decide) ?_
    refine lv_aload_n hx hb dX0_cast_50 rfl (lv_at hl 0 rfl) ?_
    refine ck_to3 S hK hP (k) hk b hV (by rw [c_1] at hu; exact hu) dX0_cast_51 ?_
    exact kk_aretR S hr (Or.inl ⟨_, rfl⟩) (Or.inr ⟨_, rfl⟩) hlk rfl rfl (rfl) dX0_cast_54
  · skip
    refine kb_tabIn (tgt := 55) S ((rfl).trans (congrArg nI c_1)) (by decide) dX0_cast_1 (by decide) (by decide) rfl (by decide) ?_
    refine lv_aload_n hx hb dX0_cast_55 rfl (lv_at hl 0 rfl) ?_
    refine ck_to4 S hK hP (k) hk b hV (by rw [c_1] at hu; exact hu) dX0_cast_56 ?_
    exact kk_aretR S hr (Or.inl ⟨_, rfl⟩) (Or.inr ⟨_, rfl⟩) hlk rfl rfl (rfl) dX0_cast_59
  · skip
    refine kb_tabIn (tgt := 60) S ((rfl).trans (congrArg nI c_1)) (by decide) dX0_cast_1 (by decide) (by decide) rfl (by decide) ?_
    refine lv_aload_n hx hb dX0_cast_60 rfl (lv_at hl 0 rfl) ?_
    refine ck_to5 S hK hP (k) hk b hV (by rw [c_1] at hu; exact hu) dX0_cast_61 ?_
    exact kk_aretR S hr (Or.inl ⟨_, rfl⟩) (Or.inr ⟨_, rfl⟩) hlk rfl rfl (rfl) dX0_cast_64
  · skip
    refine kb_tabIn (tgt := 65) S ((rfl).trans (congrArg nI c_1)) (by decide) dX0_cast_1 (by decide) (by decide) rfl (by decide) ?_
    refine lv_aload_n hx hb dX0_cast_65 rfl (lv_at hl 0 rfl) ?_
    refine ck_to6 S hK hP (k) hk b hV (by rw [c_1] at hu; exact hu) dX0_cast_66 ?_
    exact kk_aretR S hr (Or.inl ⟨_, rfl⟩) (Or.inr ⟨_, rfl⟩) hlk rfl rfl (rfl) dX0_cast_69
section CC
variable {p : Program} {l : Launch} {e : Env} {R : Room} {s : State} {m : MethodId} {args : Array Value} {below : List Frame} {meth : Method} {c : Code} {H H0 : Heap} {locs : List Loc} {cells slots : Nat} {Q : State → Prop}
variable {cc : ByteArray} {pc nL : Nat} {ls : Array Slot} {rest : List Value} {t : CT} {r : Rw} {x : Nat → Rw}
theorem cc_thingAtN (S : CallFix p m c cc nL s args lw_all RX0) (hK : cK t s) (hP : cX t r x H) (hS : va_S (cA t) H0 H locs) (hR : kRm R 2 cells slots) (hsz : ls.size = nL) (y : Nat) (b : Nat) (hy : y < 10) (hV : pV b r) (hz : r (72 + y) = -1) {i0 : Int32} (e0 : i0 = nI y) (hrest : (rest.map fun v => v.category).sum ≤ 8) (hdg : decode cc pc = .ok (.invokevirtual 361, 3)) (kk : ∀ (H1 : Heap) (locs1 : List Loc), cX t (r) (va_up x 11 (upd (x 11) y (-1))) H1 → va_S (cA t) H0 H1 locs1 → W p l e R s m args below meth c H1 locs1 cells slots Q (F0 m (pc + 3) ls (.null :: rest))) : W p l e R s m args below meth c H locs cells slots Q (F0 m pc ls (.int i0 :: .ref (t.2.1 0) :: rest)) := by
  subst e0
  exact kk_Wa (W.runV (As := [.int (nI y)]) (rest := rest) S (k0_thingAtN l t r x y b hy hV hz) (cwV 1 S.2.2.2.2 (lw_V q1142 q1144 qs52 q101 q1145) rfl rfl rfl (by decide +kernel) ⟨hR.1, by have := hR.2.1; show 8 + (3 + 11) + 38 * 1 ≤ R.locals; omega⟩) ⟨c_blind, c_recv hK hP, c_pre hK hP⟩ rfl rfl hsz rfl (lv_room hrest) hdg ⟨hR.2.2.1, hR.2.2.2⟩) hS (fun _ h => h) (fun _ h => h) (fun H1 locs1 hB _ _ hS => kk H1 locs1 hB hS)
theorem cc_thingAt (S : CallFix p m c cc nL s args lw_all RX0) (hK : cK t s) (hP : cX t r x H) (hS : va_S (cA t) H0 H locs) (hR : kRm R 2 cells slots) (hsz : ls.size = nL) (y : Nat) (k : Nat) (b : Nat) (hy : y < 10) (hk : k < 8) (hV : pV b r) (hz : r (72 + y) = nI k) {i0 : Int32} (e0 : i0 = nI y) (hrest : (rest.map fun v => v.category).sum ≤ 8) (hdg : decode cc pc = .ok (.invokevirtual 361, 3)) (kk : ∀ (H1 : Heap) (locs1 : List Loc), cX t (r) (va_up x 11 (upd (x 11) y (nI (8 * pK r k + k)))) H1 → va_S (cA t) H0 H1 locs1 → W p l e R s m args below meth c H1 locs1 cells slots Q (F0 m (pc + 3) ls (.ref (t.2.1 (600 + (8 * pK r k + k))) :: rest))) : W p l e R s m args below meth c H locs cells slots Q (F0 m pc ls (.int i0 :: .ref (t.2.1 0) :: rest)) := by
  subst e0
  exact kk_Wa (W.runV (As := [.int (nI y)]) (rest := rest) S (k0_thingAt l t r x y k b hy hk hV hz) (cwV 1 S.2.2.2.2 (lw_V q1142 q1144 qs52 q101 q1145) rfl rfl rfl (by decide +kernel) ⟨hR.1, by have := hR.2.1; show 8 + (3 + 11) + 38 * 1 ≤ R.locals; omega⟩) ⟨c_blind, c_recv hK hP, c_pre hK hP⟩ rfl rfl hsz rfl (lv_room hrest) hdg ⟨hR.2.2.1, hR.2.2.2⟩) hS (fun _ h => h) (fun _ h => h) (fun H1 locs1 hB _ _ hS => kk H1 locs1 hB hS)
theorem cc_cast (S : CallFix p m c cc nL s args lw_all RX0) (hK : cK t s) (hP : cX t r x H) (hR : kRm R 1 cells slots) (hsz : ls.size = nL) (k : Nat) (w : Nat) (b : Nat) (hk : k < 8) (hV : pV b r) (hw : w ≤ 6) (hu : p_under (r (16 + 7 * k)) (nI w)) {i1 : Int32} (e1 : i1 = nI w) (hrest : (rest.map fun v => v.category).sum ≤ 8) (hdg : decode cc pc = .ok (.invokestatic 367, 3)) (kk : W p l e R s m args below meth c H locs cells slots Q (F0 m (pc + 3) ls (.ref (t.2.1 (600 + (8 * pK r k + k))) :: rest))) : W p l e R s m args below meth c H locs cells slots Q (F0 m pc ls (.int i1 :: .ref (t.2.1 (600 + (8 * pK r k + k))) :: rest)) := by
  subst e1
  exact kk_Ra (W.runS (As := [.ref (t.2.1 (600 + (8 * pK r k + k))), .int (nI w)]) (rest := rest) S (k0_cast l t r x k w b hk hV hw hu) (va_cwS 2 S.2.2.2.2 (lw_S q1167 q1168 q101 q1169) rfl rfl rfl (by decide +kernel) ⟨hR.1, by have := hR.2.1; show 8 + (2 + 11) + 38 * 0 ≤ R.locals; omega⟩) ⟨c_blind, c_pre hK hP⟩ rfl rfl hsz rfl (lv_room hrest) hdg ⟨hR.2.2.1, hR.2.2.2⟩) kk
end CC
set_option maxHeartbeats 4000000 in
set_option maxRecDepth 100000 in
theorem k0_as (l : Launch) (t : CT) (r : Rw) (x : Nat → Rw) (y : Int32) (w : Int32) (b : Nat) (hV : pV b r) : Met l yX0_as (ws_ yX0_as cX0_as 5 (some .int)) (rmF 7) (va_Pc [.ref (t.2.1 0), .int y, .int w] (fun U => cK t U ∧ cX t r x U.heap)) (kW (some (.int ((o_as r y w).1))) (fun H => ∃ x1, cJ (fx x (o_as r y w).2.2) x1 ∧ cX t ((o_as r y w).2.1) x1 H) (cA t)) 0 0 (cA t) := by
  refine kk_start (by decide) (Nat.le_of_ble_eq_true rfl) ?_
  intro p e s m below meth c S hr hlk hin hB ls hl
  obtain ⟨hK, hP⟩ := hB
  have hx := S.1
  have hb := S.2.1
  have hown : s.vm.findClass RX0 = some m.cls := S.2.2.2.1
  have hts := S.2.2.2.2
  have hS : va_S (cA t) s.heap s.heap [] := va_S.rf
  have hl : lv_has ls 5 [(0, .ref (t.2.1 0)), (1, .int (y)), (2, .int (w))] := hl
  refine lv_iload_n hx hb dX0_as_0 rfl (lv_at hl 1 rfl) ?_
  refine cc_isSpot S (rm_ok (Nat.le_of_ble_eq_true rfl)) hl.1 (Nat.le_of_ble_eq_true rfl) dX0_as_1 ?_
  refine kb_ifeq (tgt := 14) S dX0_as_4 (by decide) (fun c_4 => ?_) (fun c_4 => ?_)
  · skip
    refine lv_aload_n hx hb dX0_as_14 rfl (lv_at hl 0 rfl) ?_
    refine lv_iconst (v := 0) hx hb dX0_as_15 (by decide) ?_
    refine cc_finding S hK hP hS (rm_ok (Nat.le_of_ble_eq_true rfl)) hl.1 (0) (by omega) rfl (Nat.le_of_ble_eq_true rfl) dX0_as_16 (fun H locs hP hS => ?_)
    have ho : o_as r y w = (fnd 0, r, some 0) := by first | (simp only [o_as, c_4, reduceIte, and_self, oF, oK]; done) | (simp [o_as, oF, oK, fnd, c_4]; done) | (unfold o_as oF oK; grind)
    exact kk_iretW S hr hlk hS (by rw [ho]; exact ⟨_, ((cJ.rf _)).fnd 0, hP⟩) (by rw [ho]) dX0_as_19
  · skip
    obtain ⟨y_, hy_, rfl⟩ := nat_of_le (n := 9) (rfl) (by omega) c_4
    have hcl_y_ := nI_clamp (n := y_) (by omega)
    refine lv_iload_n hx hb dX0_as_7 rfl (lv_at hl 2 rfl) ?_
    refine cc_isKind S (rm_ok (Nat.le_of_ble_eq_true rfl)) hl.1 (Nat.le_of_ble_eq_true rfl) dX0_as_8 ?_
    refine kb_ifne (tgt := 20) S dX0_as_11 (by decide) (fun c_11 => ?_) (fun c_11 => ?_)
    · skip
      obtain ⟨w_, hw_, rfl⟩ := nat_of_le (n := 6) (rfl) (by omega) c_11
      have hcl_w_ := nI_clamp (n := w_) (by omega)
      refine lv_aload_n hx hb dX0_as_20 rfl (lv_at hl 0 rfl) ?_
      refine lv_iload_n hx hb dX0_as_21 rfl (lv_at hl 1 rfl) ?_
      rcases hV.sp2 (show y_ < 10 by omega) with hz | ⟨k_, hk_, hz⟩
      · skip
        refine cc_thingAtN S hK hP hS (rm_ok (Nat.le_of_ble_eq_true rfl)) hl.1 (y_) b (by omega) hV hz rfl (Nat.le_of_ble_eq_true rfl) dX0_as_22 (fun H locs hP hS => ?_)
        refine lv_astore_nN (lv' := [(3, .null), (0, .ref (t.2.1 0)), (1, .int ((nI y_))), (2, .int ((nI w_)))]) hx hb dX0_as_25 rfl hl (by decide) rfl (fun ls hl => ?_)
        have hyk : r (72 + y_) = -1 := hz
        have hn0 : ¬ 0 ≤ r (72 + y_) := by rw [hz]; decide
        refine lv_aload_nN hx hb dX0_as_26 rfl (lv_at hl 0 rfl) ?_
        refine lv_ifnonnullN hx hb dX0_as_27 ?_
        refine lv_aload_n hx hb dX0_as_30 rfl (lv_at hl 1 rfl) ?_
        refine lv_iconst (v := 5) hx hb dX0_as_31 (by decide) ?_
        refine cc_finding S hK hP hS (rm_ok (Nat.le_of_ble_eq_true rfl)) hl.1 (5) (by omega) rfl (Nat.le_of_ble_eq_true rfl) dX0_as_32 (fun H locs hP hS => ?_)
        have ho : o_as r (nI y_) (nI w_) = (fnd 5, r, some 5) := by first | (simp only [o_as, c_4, c_11, hcl_y_, hn0, reduceIte, oF]; done) | (simp only [o_as, c_4, c_11, hcl_y_, hcl_w_, reduceIte, and_self, oF, oK]; done) | (simp [o_as, oF, oK, fnd, c_4, c_11, hcl_y_, hcl_w_]; done) | (unfold o_as oF oK; grind)
        exact kk_iretW S hr hlk hS (by rw [ho]; exact ⟨_, (((cJ.rf _)).j11).fnd 5, hP⟩) (by rw [ho]) dX0_as_35
      · skip
        refine cc_thingAt S hK hP hS (rm_ok (Nat.le_of_ble_eq_true rfl)) hl.1 (y_) k_ b (by omega) hk_ hV hz rfl (Nat.le_of_ble_eq_true rfl) dX0_as_22 (fun H locs hP hS => ?_)
        refine lv_astore_n (lv' := [(3, .ref (t.2.1 (600 + (8 * pK r k_ + k_)))), (0, .ref (t.2.1 0)), (1, .int ((nI y_))), (2, .int ((nI w_)))]) hx hb dX0_as_25 rfl hl (by decide) rfl (fun ls hl => ?_)
        have h0k : 0 ≤ r (72 + y_) := by rw [hz]; exact nI_pos' (by omega)
        have hzc : (r (72 + y_)).toNatClampNeg = k_ := by rw [hz]; exact nI_clamp (by omega)
        refine lv_aload_n hx hb dX0_as_26 rfl (lv_at hl 0 rfl) ?_
        refine lv_ifnonnull (tgt := 36) hx hb dX0_as_27 (by decide) ?_
        refine lv_aload_n hx hb dX0_as_36 rfl (lv_at hl 0 rfl) ?_
        refine ck_isCask S hK hP (k_) hk_ b hV dX0_as_37 ?_
        refine kb_eq0_n (tgt := 58) (a := 1) S rfl (by omega) dX0_as_40 (by decide) (fun c_40 => ?_) (fun c_40 => ?_)
        · exact absurd c_40 (by first | decide | omega)
        · skip
          refine lv_aload_n hx hb dX0_as_43 rfl (lv_at hl 0 rfl) ?_
          refine ck_cask S hK hP (k_) hk_ b hV dX0_as_44 ?_
          refine lv_iload_n hx hb dX0_as_47 rfl (lv_at hl 3 rfl) ?_
          refine cv_isUnder S hK hP (rm_ok (Nat.le_of_ble_eq_true rfl)) hl.1 (k_) hk_ b hV (Nat.le_of_ble_eq_true rfl) dX0_as_48 ?_
          refine kb_ifeq (tgt := 58) S dX0_as_51 (by decide) (fun c_51 => ?_) (fun c_51 => ?_)
          · skip
            refine lv_iconst (v := 0) hx hb dX0_as_58 (by decide) ?_
            refine lv_istore (lv' := [(4, .int (0)), (3, .ref (t.2.1 (600 + (8 * pK r k_ + k_)))), (0, .ref (t.2.1 0)), (1, .int ((nI y_))), (2, .int ((nI w_)))]) hx hb dX0_as_59 hl (by decide) rfl (fun ls hl => ?_)
            refine lv_iload hx hb dX0_as_61 (lv_at hl 0 rfl) ?_
            refine kb_eq0_n (tgt := 77) (a := 0) S rfl (by omega) dX0_as_63 (by decide) (fun c_63 => ?_) (fun c_63 => ?_)
            · skip
              refine lv_aload_n hx hb dX0_as_77 rfl (lv_at hl 2 rfl) ?_
              refine lv_iconst (v := 2) hx hb dX0_as_78 (by decide) ?_
              refine cc_finding S hK hP hS (rm_ok (Nat.le_of_ble_eq_true rfl)) hl.1 (2) (by omega) rfl (Nat.le_of_ble_eq_true rfl) dX0_as_79 (fun H locs hP hS => ?_)
              have ho : o_as r (nI y_) (nI w_) = (fnd 2, r, some 2) := by first | (simp only [o_as, c_4, c_11, hcl_y_, h0k, hzc, show (16 + 7 * k_ + 0) = 16 + 7 * k_ from rfl, c_51, reduceIte, oF, oK, hz]; done) | (simp only [o_as, c_4, c_11, c_51, hcl_y_, hcl_w_, reduceIte, and_self, oF, oK]; done) | (simp [o_as, oF, oK, fnd, c_4, c_11, c_51, hcl_y_, hcl_w_]; done) | (unfold o_as oF oK; grind)
              exact kk_iretW S hr hlk hS (by rw [ho]; exact ⟨_, (((cJ.rf _)).j11).fnd 2, hP⟩) (by rw [ho]) dX0_as_82
            · exact absurd c_63 (by first | decide | omega)
          · skip
            refine lv_iconst (v := 1) hx hb dX0_as_54 (by decide) ?_
            refine lv_goto (tgt := 59) hx hb dX0_as_55 (by decide) ?_
            refine lv_istore (lv' := [(4, .int (1)), (3, .ref (t.2.1 (600 + (8 * pK r k_ + k_)))), (0, .ref (t.2.1 0)), (1, .int ((nI y_))), (2, .int ((nI w_)))]) hx hb dX0_as_59 hl (by decide) rfl (fun ls hl => ?_)
            refine lv_iload hx hb dX0_as_61 (lv_at hl 0 rfl) ?_
            refine kb_eq0_n (tgt := 77) (a := 1) S rfl (by omega) dX0_as_63 (by decide) (fun c_63 => ?_) (fun c_63 => ?_)
            · exact absurd c_63 (by first | decide | omega)
            · skip
              refine lv_aload_n hx hb dX0_as_66 rfl (lv_at hl 1 rfl) ?_
              refine lv_iload_n hx hb dX0_as_67 rfl (lv_at hl 4 rfl) ?_
              refine cc_cast S hK hP (rm_ok (Nat.le_of_ble_eq_true rfl)) hl.1 (k_) (w_) (b) hk_ hV (by omega) c_51 rfl (Nat.le_of_ble_eq_true rfl) dX0_as_68 ?_
              refine ck_num S hK hP (k_) hk_ b hV dX0_as_71 ?_
              refine lv_goto (tgt := 82) hx hb dX0_as_74 (by decide) ?_
              have ho : o_as r (nI y_) (nI w_) = ((nI k_), r, none) := by first | (simp only [o_as, c_4, c_11, hcl_y_, h0k, hzc, show (16 + 7 * k_ + 0) = 16 + 7 * k_ from rfl, c_51, reduceIte, oF, oK, hz]; done) | (simp only [o_as, c_4, c_11, c_51, hcl_y_, hcl_w_, reduceIte, and_self, oF, oK]; done) | (simp [o_as, oF, oK, fnd, c_4, c_11, c_51, hcl_y_, hcl_w_]; done) | (unfold o_as oF oK; grind)
              exact kk_iretW S hr hlk hS (by rw [ho]; exact ⟨_, ((cJ.rf _)).j11, hP⟩) (by rw [ho]) dX0_as_82
    · skip
      refine lv_aload_n hx hb dX0_as_14 rfl (lv_at hl 0 rfl) ?_
      refine lv_iconst (v := 0) hx hb dX0_as_15 (by decide) ?_
      refine cc_finding S hK hP hS (rm_ok (Nat.le_of_ble_eq_true rfl)) hl.1 (0) (by omega) rfl (Nat.le_of_ble_eq_true rfl) dX0_as_16 (fun H locs hP hS => ?_)
      have ho : o_as r (nI y_) w = (fnd 0, r, some 0) := by first | (simp only [o_as, c_4, c_11, hcl_y_, reduceIte, and_self, oF, oK]; done) | (simp [o_as, oF, oK, fnd, c_4, c_11, hcl_y_]; done) | (unfold o_as oF oK; grind)
      exact kk_iretW S hr hlk hS (by rw [ho]; exact ⟨_, ((cJ.rf _)).fnd 0, hP⟩) (by rw [ho]) dX0_as_19
section CC
variable {p : Program} {l : Launch} {e : Env} {R : Room} {s : State} {m : MethodId} {args : Array Value} {below : List Frame} {meth : Method} {c : Code} {H H0 : Heap} {locs : List Loc} {cells slots : Nat} {Q : State → Prop}
variable {cc : ByteArray} {pc nL : Nat} {ls : Array Slot} {rest : List Value} {t : CT} {r : Rw} {x : Nat → Rw}
end CC

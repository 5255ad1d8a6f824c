set_option maxHeartbeats 4000000 in
set_option maxRecDepth 100000 in
theorem k_more (l : Launch) (t : MT) (r : Rw) (x : Nat → Rw) (k : Nat) (v : Int32) (hk : k < 8) : Met l yX13_more (ws_ yX13_more cX13_more 3 none) (rmF 1) (va_Pc [.ref (t.2.1 0), .int (nI k), .int v] (fun U => mK t U ∧ mW t r x U.heap)) (kW none (mW t (p_more r k v) (x)) (mA t)) 0 0 (mA t) := by
  refine kk_start (by decide) (Nat.le_of_ble_eq_true rfl) ?_
  intro p e s m below meth c S hr hlk hin hB ls hl
  obtain ⟨hK, hP⟩ := hB
  have hx := S.1
  have hb := S.2.1
  have hown : s.vm.findClass RX13 = some m.cls := S.2.2.2.1
  have hts := S.2.2.2.2
  have hS : va_S (mA t) s.heap s.heap [] := va_S.rf
  have hl : lv_has ls 3 [(0, .ref (t.2.1 0)), (1, .int ((nI k))), (2, .int (v))] := hl
  refine lv_aload_n hx hb dX13_more_0 rfl (lv_at hl 0 rfl) ?_
  refine mg_s S hK hP dX13_more_1 ?_
  refine lv_iload_n hx hb dX13_more_4 rfl (lv_at hl 1 rfl) ?_
  refine lv_iconst (v := 2) hx hb dX13_more_5 (by decide) ?_
  refine c_at S (rm_ok (Nat.le_of_ble_eq_true rfl)) hl.1 (k) (2) rfl rfl (Nat.le_of_ble_eq_true rfl) dX13_more_6 ?_
  refine lv_sipush (v := 999) hx hb dX13_more_9 (by decide) ?_
  refine lv_aload_n hx hb dX13_more_12 rfl (lv_at hl 0 rfl) ?_
  refine lv_iload_n hx hb dX13_more_13 rfl (lv_at hl 1 rfl) ?_
  refine lv_iconst (v := 2) hx hb dX13_more_14 (by decide) ?_
  refine c_its S hK hP (rm_ok (Nat.le_of_ble_eq_true rfl)) hl.1 (k) (2) (by omega) (by omega) rfl rfl (Nat.le_of_ble_eq_true rfl) dX13_more_15 ?_
  refine lv_iload_n hx hb dX13_more_18 rfl (lv_at hl 2 rfl) ?_
  refine lv_iadd hx hb dX13_more_19 ?_
  refine c_least S (rm_ok (Nat.le_of_ble_eq_true rfl)) hl.1 (Nat.le_of_ble_eq_true rfl) dX13_more_20 ?_
  refine mk_sts S hK hP hS ((16 + 7 * k + 2)) (by omega) rfl dX13_more_23 (fun H locs hP hS => ?_)
  exact kk_vretW S hr hlk hS (hP) dX13_more_24
set_option maxHeartbeats 4000000 in
set_option maxRecDepth 100000 in
theorem k_cancel (l : Launch) (t : MT) (r : Rw) (x : Nat → Rw) (a : Nat) (q : Nat) (ha : a < 8) (hq : q < 8) : Met l yX13_cancel (ws_ yX13_cancel cX13_cancel 4 none) (rmF 1) (va_Pc [.ref (t.2.1 0), .int (nI a), .int (nI q)] (fun U => mK t U ∧ mW t r x U.heap)) (kW none (mW t (p_can r a q) (x)) (mA t)) 0 0 (mA t) := by
  refine kk_start (by decide) (Nat.le_of_ble_eq_true rfl) ?_
  intro p e s m below meth c S hr hlk hin hB ls hl
  obtain ⟨hK, hP⟩ := hB
  have hx := S.1
  have hb := S.2.1
  have hown : s.vm.findClass RX13 = some m.cls := S.2.2.2.1
  have hts := S.2.2.2.2
  have hS : va_S (mA t) s.heap s.heap [] := va_S.rf
  have hl : lv_has ls 4 [(0, .ref (t.2.1 0)), (1, .int ((nI a))), (2, .int ((nI q)))] := hl
  refine lv_aload_n hx hb dX13_cancel_0 rfl (lv_at hl 0 rfl) ?_
  refine lv_iload_n hx hb dX13_cancel_1 rfl (lv_at hl 1 rfl) ?_
  refine lv_iconst (v := 1) hx hb dX13_cancel_2 (by decide) ?_
  refine c_its S hK hP (rm_ok (Nat.le_of_ble_eq_true rfl)) hl.1 (a) (1) (by omega) (by omega) rfl rfl (Nat.le_of_ble_eq_true rfl) dX13_cancel_3 ?_
  refine lv_aload_n hx hb dX13_cancel_6 rfl (lv_at hl 0 rfl) ?_
  refine lv_iload_n hx hb dX13_cancel_7 rfl (lv_at hl 2 rfl) ?_
  refine lv_iconst (v := 1) hx hb dX13_cancel_8 (by decide) ?_
  refine c_its S hK hP (rm_ok (Nat.le_of_ble_eq_true rfl)) hl.1 (q) (1) (by omega) (by omega) rfl rfl (Nat.le_of_ble_eq_true rfl) dX13_cancel_9 ?_
  refine lv_icmp_ne (tgt := 74) hx hb dX13_cancel_12 (by decide) (fun c_12 => ?_) (fun c_12 => ?_)
  · skip
    exact kk_vretW S hr hlk hS (by rw [p_can, if_neg c_12]; exact hP) dX13_cancel_74
  · skip
    refine lv_aload_n hx hb dX13_cancel_15 rfl (lv_at hl 0 rfl) ?_
    refine lv_iload_n hx hb dX13_cancel_16 rfl (lv_at hl 1 rfl) ?_
    refine lv_iconst (v := 3) hx hb dX13_cancel_17 (by decide) ?_
    refine c_its S hK hP (rm_ok (Nat.le_of_ble_eq_true rfl)) hl.1 (a) (3) (by omega) (by omega) rfl rfl (Nat.le_of_ble_eq_true rfl) dX13_cancel_18 ?_
    refine lv_aload_n hx hb dX13_cancel_21 rfl (lv_at hl 0 rfl) ?_
    refine lv_iload_n hx hb dX13_cancel_22 rfl (lv_at hl 2 rfl) ?_
    refine lv_iconst (v := 3) hx hb dX13_cancel_23 (by decide) ?_
    refine c_its S hK hP (rm_ok (Nat.le_of_ble_eq_true rfl)) hl.1 (q) (3) (by omega) (by omega) rfl rfl (Nat.le_of_ble_eq_true rfl) dX13_cancel_24 ?_
    refine lv_icmp_ne (tgt := 74) hx hb dX13_cancel_27 (by decide) (fun c_27 => ?_) (fun c_27 => ?_)
    · skip
      exact kk_vretW S hr hlk hS (by rw [p_can, if_pos c_12, if_neg c_27]; exact hP) dX13_cancel_74
    · skip
      refine lv_aload_n hx hb dX13_cancel_30 rfl (lv_at hl 0 rfl) ?_
      refine lv_iload_n hx hb dX13_cancel_31 rfl (lv_at hl 1 rfl) ?_
      refine lv_iconst (v := 2) hx hb dX13_cancel_32 (by decide) ?_
      refine c_its S hK hP (rm_ok (Nat.le_of_ble_eq_true rfl)) hl.1 (a) (2) (by omega) (by omega) rfl rfl (Nat.le_of_ble_eq_true rfl) dX13_cancel_33 ?_
      refine lv_aload_n hx hb dX13_cancel_36 rfl (lv_at hl 0 rfl) ?_
      refine lv_iload_n hx hb dX13_cancel_37 rfl (lv_at hl 2 rfl) ?_
      refine lv_iconst (v := 2) hx hb dX13_cancel_38 (by decide) ?_
      refine c_its S hK hP (rm_ok (Nat.le_of_ble_eq_true rfl)) hl.1 (q) (2) (by omega) (by omega) rfl rfl (Nat.le_of_ble_eq_true rfl) dX13_cancel_39 ?_
      refine c_least S (rm_ok (Nat.le_of_ble_eq_true rfl)) hl.1 (Nat.le_of_ble_eq_true rfl) dX13_cancel_42 ?_
      refine lv_istore_n (lv' := [(3, .int (imin (r (16 + 7 * a + 2)) (r (16 + 7 * q + 2)))), (0, .ref (t.2.1 0)), (1, .int ((nI a))), (2, .int ((nI q)))]) hx hb dX13_cancel_45 rfl hl (by decide) rfl (fun ls hl => ?_)
      refine lv_aload_n hx hb dX13_cancel_46 rfl (lv_at hl 1 rfl) ?_
      refine mg_s S hK hP dX13_cancel_47 ?_
      refine lv_iload_n hx hb dX13_cancel_50 rfl (lv_at hl 2 rfl) ?_
      refine lv_iconst (v := 2) hx hb dX13_cancel_51 (by decide) ?_
      refine c_at S (rm_ok (Nat.le_of_ble_eq_true rfl)) hl.1 (a) (2) rfl rfl (Nat.le_of_ble_eq_true rfl) dX13_cancel_52 ?_
      refine lv_dup2_11 hx hb dX13_cancel_55 rfl rfl ?_
      refine mk_lds S hK hP ((16 + 7 * a + 2)) (by omega) rfl dX13_cancel_56 ?_
      refine lv_iload_n hx hb dX13_cancel_57 rfl (lv_at hl 0 rfl) ?_
      refine lv_isub hx hb dX13_cancel_58 ?_
      refine mk_sts S hK hP hS ((16 + 7 * a + 2)) (by omega) rfl dX13_cancel_59 (fun H locs hP hS => ?_)
      refine lv_aload_n hx hb dX13_cancel_60 rfl (lv_at hl 1 rfl) ?_
      refine mg_s S hK hP dX13_cancel_61 ?_
      refine lv_iload_n hx hb dX13_cancel_64 rfl (lv_at hl 3 rfl) ?_
      refine lv_iconst (v := 2) hx hb dX13_cancel_65 (by decide) ?_
      refine c_at S (rm_ok (Nat.le_of_ble_eq_true rfl)) hl.1 (q) (2) rfl rfl (Nat.le_of_ble_eq_true rfl) dX13_cancel_66 ?_
      refine lv_dup2_11 hx hb dX13_cancel_69 rfl rfl ?_
      refine mk_lds S hK hP ((16 + 7 * q + 2)) (by omega) rfl dX13_cancel_70 ?_
      refine lv_iload_n hx hb dX13_cancel_71 rfl (lv_at hl 0 rfl) ?_
      refine lv_isub hx hb dX13_cancel_72 ?_
      refine mk_sts S hK hP hS ((16 + 7 * q + 2)) (by omega) rfl dX13_cancel_73 (fun H locs hP hS => ?_)
      exact kk_vretW S hr hlk hS (by rw [p_can, if_pos c_12, if_pos c_27]; exact hP) dX13_cancel_74
set_option maxHeartbeats 4000000 in
set_option maxRecDepth 100000 in
theorem k_strained (l : Launch) (t : MT) (r : Rw) (x : Nat → Rw) (b : Nat) (hV : pV b r) : Met l yX13_strained (ws_ yX13_strained cX13_strained 2 (some .int)) (rmF 3) (va_Pc [.ref (t.2.1 0)] (fun U => mK t U ∧ mW t r x U.heap)) (kR (some (.int (oi (p_str r))))) 0 0 (fun _ => False) := by
  refine kk_start (by decide) (Nat.le_of_ble_eq_true rfl) ?_
  intro p e s m below meth c S hr hlk hin hB ls hl
  obtain ⟨hK, hP⟩ := hB
  have hx := S.1
  have hb := S.2.1
  have hown : s.vm.findClass RX13 = some m.cls := S.2.2.2.1
  have hts := S.2.2.2.2
  have hl : lv_has ls 2 [(0, .ref (t.2.1 0))] := hl
  have hn := hV.n.1
  have hn8 := hV.n.2
  refine lv_iconst (v := 0) hx hb dX13_strained_0 (by decide) ?_
  refine lv_istore_n (lv' := [(1, .int (0)), (0, .ref (t.2.1 0))]) hx hb dX13_strained_1 rfl hl (by decide) rfl (fun ls hl => ?_)
  have lp_2 : ∀ (j k : Nat) (ls : Array Slot), k + j = pN r → (ffs (p_over r) j k = p_str r) → lv_has ls 2 [(0, .ref (t.2.1 0)), (1, .int ((nI k)))] → W p l e (rmF 3) s m ([.ref (t.2.1 0)] : List Value).toArray below meth c s.heap [] 0 0 (MQ below (kR (some (.int (oi (p_str r))))) ([.ref (t.2.1 0)] : List Value).toArray s 0 0 (fun _ => False)) (F0 m 2 ls []) := by
    intro j
    induction j with
    | zero =>
      intro k  ls hkj he hl
      refine lv_iload_n hx hb dX13_strained_2 rfl (lv_at hl 1 rfl) ?_
      refine lv_aload_n hx hb dX13_strained_3 rfl (lv_at hl 0 rfl) ?_
      refine mg_s S hK hP dX13_strained_4 ?_
      refine lv_iconst (v := 0) hx hb dX13_strained_7 (by decide) ?_
      refine mk_lds S hK hP (0) (by omega) rfl dX13_strained_8 ?_
      refine kb_ge_n (tgt := 31) (a := k) (b := (pN r)) S rfl hn (by omega) (by omega) dX13_strained_9 (by decide) (fun c_9 => ?_) (fun c_9 => ?_)
      · skip
        refine lv_iload_n hx hb dX13_strained_31 rfl (lv_at hl 1 rfl) ?_
        refine lv_aload_n hx hb dX13_strained_32 rfl (lv_at hl 0 rfl) ?_
        refine mg_s S hK hP dX13_strained_33 ?_
        refine lv_iconst (v := 0) hx hb dX13_strained_36 (by decide) ?_
        refine mk_lds S hK hP (0) (by omega) rfl dX13_strained_37 ?_
        refine kb_ge_n (tgt := 45) (a := k) (b := (pN r)) S rfl hn (by omega) (by omega) dX13_strained_38 (by decide) (fun c_38 => ?_) (fun c_38 => ?_)
        · skip
          refine lv_iconst (v := (-1)) hx hb dX13_strained_45 (by decide) ?_
          exact kk_iretR S hr hlk rfl rfl (by first | (rw [← he]; rfl) | (rw [← he, ffs, if_pos (by unfold p_over; simp only [decide_eq_true_eq]; exact c_22)]; rfl)) dX13_strained_46
        · exact absurd c_38 (by omega)
      · exact absurd c_9 (by omega)
    | succ j ih =>
      intro k  ls hkj he hl
      have ih_2 := ih
      refine lv_iload_n hx hb dX13_strained_2 rfl (lv_at hl 1 rfl) ?_
      refine lv_aload_n hx hb dX13_strained_3 rfl (lv_at hl 0 rfl) ?_
      refine mg_s S hK hP dX13_strained_4 ?_
      refine lv_iconst (v := 0) hx hb dX13_strained_7 (by decide) ?_
      refine mk_lds S hK hP (0) (by omega) rfl dX13_strained_8 ?_
      refine kb_ge_n (tgt := 31) (a := k) (b := (pN r)) S rfl hn (by omega) (by omega) dX13_strained_9 (by decide) (fun c_9 => ?_) (fun c_9 => ?_)
      · exact absurd c_9 (by omega)
      · skip
        refine lv_aload_n hx hb dX13_strained_12 rfl (lv_at hl 0 rfl) ?_
        refine lv_iload_n hx hb dX13_strained_13 rfl (lv_at hl 1 rfl) ?_
        refine c_loud S hK hP (rm_ok (Nat.le_of_ble_eq_true rfl)) hl.1 (k) (b) (by omega) hV rfl (Nat.le_of_ble_eq_true rfl) dX13_strained_14 ?_
        refine lv_aload_n hx hb dX13_strained_17 rfl (lv_at hl 0 rfl) ?_
        refine lv_iload_n hx hb dX13_strained_18 rfl (lv_at hl 1 rfl) ?_
        refine c_bears S hK hP (rm_ok (Nat.le_of_ble_eq_true rfl)) hl.1 (k) (b) (by omega) hV rfl (Nat.le_of_ble_eq_true rfl) dX13_strained_19 ?_
        refine lv_icmp_gt (tgt := 31) hx hb dX13_strained_22 (by decide) (fun c_22 => ?_) (fun c_22 => ?_)
        · skip
          refine lv_iload_n hx hb dX13_strained_31 rfl (lv_at hl 1 rfl) ?_
          refine lv_aload_n hx hb dX13_strained_32 rfl (lv_at hl 0 rfl) ?_
          refine mg_s S hK hP dX13_strained_33 ?_
          refine lv_iconst (v := 0) hx hb dX13_strained_36 (by decide) ?_
          refine mk_lds S hK hP (0) (by omega) rfl dX13_strained_37 ?_
          refine kb_ge_n (tgt := 45) (a := k) (b := (pN r)) S rfl hn (by omega) (by omega) dX13_strained_38 (by decide) (fun c_38 => ?_) (fun c_38 => ?_)
          · exact absurd c_38 (by omega)
          · skip
            refine lv_iload_n hx hb dX13_strained_41 rfl (lv_at hl 1 rfl) ?_
            refine lv_goto (tgt := 46) hx hb dX13_strained_42 (by decide) ?_
            exact kk_iretR S hr hlk rfl rfl (by first | (rw [← he]; rfl) | (rw [← he, ffs, if_pos (by unfold p_over; simp only [decide_eq_true_eq]; exact c_22)]; rfl)) dX13_strained_46
        · skip
          refine lv_iinc (v := (nI (k + 1))) (lv' := [(1, .int ((nI (k + 1)))), (0, .ref (t.2.1 0))]) hx hb dX13_strained_25 hl (k := 1) rfl (nn_1 rfl) (by decide) rfl (fun ls hl => ?_)
          refine lv_goto (tgt := 2) hx hb dX13_strained_28 (by decide) ?_
          exact ih_2 ((k + 1)) ls (by omega) (by rw [ffs, if_neg (by unfold p_over; simp only [decide_eq_true_eq]; exact c_22)] at he; exact he) (lv_sub hl [1, 0] rfl)
  exact lp_2 (pN r) 0 ls (by omega) (rfl) (lv_sub hl [1, 0] rfl)
section MC
variable {p : Program} {l : Launch} {e : Env} {R : Room} {s : State} {m : MethodId} {args : Array Value} {below : List Frame} {meth : Method} {c : Code} {H H0 : Heap} {locs : List Loc} {cells slots : Nat} {Q : State → Prop}
variable {cc : ByteArray} {pc nL : Nat} {ls : Array Slot} {rest : List Value} {t : MT} {r : Rw} {x : Nat → Rw}



theorem c_more (S : CallFix p m c cc nL s args lw_all RX13) (hK : mK t s) (hP : mW t r x H) (hS : va_S (mA t) H0 H locs) (hR : kRm R 2 cells slots) (hsz : ls.size = nL) (k : Nat) {v : Int32} (hk : k < 8) {i0 : Int32} (e0 : i0 = nI k) (hrest : (rest.map fun v => v.category).sum ≤ 8) (hdg : decode cc pc = .ok (.invokevirtual 104, 3)) (kk : ∀ (H1 : Heap) (locs1 : List Loc), mW t (p_more r k v) (x) H1 → va_S (mA t) H0 H1 locs1 → W p l e R s m args below meth c H1 locs1 cells slots Q (F0 m (pc + 3) ls (rest))) : W p l e R s m args below meth c H locs cells slots Q (F0 m pc ls (.int v :: .int i0 :: .ref (t.2.1 0) :: rest)) := by
  subst e0
  exact kk_Wv (W.runV (As := [.int (nI k), .int v]) (rest := rest) S (k_more l t r x k v hk) (cwV 2 S.2.2.2.2 (lw_V q1397 q1399 qs67 q117 q1400) rfl rfl rfl (by decide +kernel) ⟨hR.1, by have := hR.2.1; show 8 + (3 + 11) + 38 * 1 ≤ R.locals; omega⟩) ⟨m_blind, m_recv hK hP, m_pre hK hP⟩ rfl rfl hsz rfl (lv_room hrest) hdg ⟨hR.2.2.1, hR.2.2.2⟩) hS (fun _ h => h) (fun _ h => h) (fun H1 locs1 hB _ _ hS => kk H1 locs1 hB hS)
theorem c_cancel (S : CallFix p m c cc nL s args lw_all RX13) (hK : mK t s) (hP : mW t r x H) (hS : va_S (mA t) H0 H locs) (hR : kRm R 2 cells slots) (hsz : ls.size = nL) (a : Nat) (q : Nat) (ha : a < 8) (hq : q < 8) {i0 : Int32} (e0 : i0 = nI a) {i1 : Int32} (e1 : i1 = nI q) (hrest : (rest.map fun v => v.category).sum ≤ 8) (hdg : decode cc pc = .ok (.invokevirtual 108, 3)) (kk : ∀ (H1 : Heap) (locs1 : List Loc), mW t (p_can r a q) (x) H1 → va_S (mA t) H0 H1 locs1 → W p l e R s m args below meth c H1 locs1 cells slots Q (F0 m (pc + 3) ls (rest))) : W p l e R s m args below meth c H locs cells slots Q (F0 m pc ls (.int i1 :: .int i0 :: .ref (t.2.1 0) :: rest)) := by
  subst e0
  subst e1
  exact kk_Wv (W.runV (As := [.int (nI a), .int (nI q)]) (rest := rest) S (k_cancel l t r x a q ha hq) (cwV 2 S.2.2.2.2 (lw_V q1404 q1406 qs68 q117 q1407) rfl rfl rfl (by decide +kernel) ⟨hR.1, by have := hR.2.1; show 8 + (4 + 11) + 38 * 1 ≤ R.locals; omega⟩) ⟨m_blind, m_recv hK hP, m_pre hK hP⟩ rfl rfl hsz rfl (lv_room hrest) hdg ⟨hR.2.2.1, hR.2.2.2⟩) hS (fun _ h => h) (fun _ h => h) (fun H1 locs1 hB _ _ hS => kk H1 locs1 hB hS)
theorem c_strained (S : CallFix p m c cc nL s args lw_all RX13) (hK : mK t s) (hP : mW t r x H) (hR : kRm R 4 cells slots) (hsz : ls.size = nL) (b : Nat) (hV : pV b r) (hrest : (rest.map fun v => v.category).sum ≤ 8) (hdg : decode cc pc = .ok (.invokevirtual 111, 3)) (kk : W p l e R s m args below meth c H locs cells slots Q (F0 m (pc + 3) ls (.int (oi (p_str r)) :: rest))) : W p l e R s m args below meth c H locs cells slots Q (F0 m pc ls (.ref (t.2.1 0) :: rest)) := by
  exact kk_Ri (W.runV (As := []) (rest := rest) S (k_strained l t r x b hV) (cwV 0 S.2.2.2.2 (lw_V q1408 q1410 qs69 q117 q1411) rfl rfl rfl (by decide +kernel) ⟨hR.1, by have := hR.2.1; show 8 + (2 + 11) + 38 * 3 ≤ R.locals; omega⟩) ⟨m_blind, m_recv hK hP, m_pre hK hP⟩ rfl rfl hsz rfl (lv_room hrest) hdg ⟨hR.2.2.1, hR.2.2.2⟩) kk
end MC
set_option maxHeartbeats 4000000 in
set_option maxRecDepth 100000 in
theorem k_burst (l : Launch) (t : MT) (r : Rw) (x : Nat → Rw) (k : Nat) (b : Nat) (hk : k < 8) (hV : pV b r) : Met l yX13_burst (ws_ yX13_burst cX13_burst 4 none) (rmF 2) (va_Pc [.ref (t.2.1 0), .int (nI k)] (fun U => mK t U ∧ mW t r x U.heap)) (kW none (mW t (p_burst r k) (x)) (mA t)) 0 0 (mA t) := by
  refine kk_start (by decide) (Nat.le_of_ble_eq_true rfl) ?_
  intro p e s m below meth c S hr hlk hin hB ls hl
  obtain ⟨hK, hP⟩ := hB
  have hx := S.1
  have hb := S.2.1
  have hown : s.vm.findClass RX13 = some m.cls := S.2.2.2.1
  have hts := S.2.2.2.2
  have hS : va_S (mA t) s.heap s.heap [] := va_S.rf
  have hl : lv_has ls 4 [(0, .ref (t.2.1 0)), (1, .int ((nI k)))] := hl
  have hn := hV.n.1
  have hn8 := hV.n.2
  refine lv_aload_n hx hb dX13_burst_0 rfl (lv_at hl 0 rfl) ?_
  refine lv_iload_n hx hb dX13_burst_1 rfl (lv_at hl 1 rfl) ?_
  refine lv_iconst (v := 2) hx hb dX13_burst_2 (by decide) ?_
  refine c_its S hK hP (rm_ok (Nat.le_of_ble_eq_true rfl)) hl.1 (k) (2) (by omega) (by omega) rfl rfl (Nat.le_of_ble_eq_true rfl) dX13_burst_3 ?_
  refine lv_iconst (v := 2) hx hb dX13_burst_6 (by decide) ?_
  refine lv_idiv hx hb dX13_burst_7 (by decide) ?_
  refine lv_istore_n (lv' := [(2, .int ((r (16 + 7 * k + 2) / 2))), (0, .ref (t.2.1 0)), (1, .int ((nI k)))]) hx hb dX13_burst_8 rfl hl (by decide) rfl (fun ls hl => ?_)
  refine lv_iconst (v := 0) hx hb dX13_burst_9 (by decide) ?_
  refine lv_istore_n (lv' := [(3, .int (0)), (2, .int ((r (16 + 7 * k + 2) / 2))), (0, .ref (t.2.1 0)), (1, .int ((nI k)))]) hx hb dX13_burst_10 rfl hl (by decide) rfl (fun ls hl => ?_)
  have lp_11 : ∀ (j q : Nat) (r1 : Rw) (H : Heap) (locs : List Loc) (ls : Array Slot), q + j = pN r → (lp (p_b1f k (r (16 + 7 * k + 2) / 2)) j q r1 = p_b1 r k) → (kp r r1) → mW t (r1) (x) H → va_S (mA t) s.heap H locs → lv_has ls 4 [(0, .ref (t.2.1 0)), (1, .int ((nI k))), (2, .int ((r (16 + 7 * k + 2) / 2))), (3, .int ((nI q)))] → W p l e (rmF 2) s m ([.ref (t.2.1 0), .int (nI k)] : List Value).toArray below meth c H locs 0 0 (MQ below (kW none (mW t (p_burst r k) (x)) (mA t)) ([.ref (t.2.1 0), .int (nI k)] : List Value).toArray s 0 0 (mA t)) (F0 m 11 ls []) := by
    intro j
    induction j with
    | zero =>
      intro q  r1 H locs ls hkj he hk1 hP hS hl
      refine lv_iload_n hx hb dX13_burst_11 rfl (lv_at hl 3 rfl) ?_
      refine lv_aload_n hx hb dX13_burst_12 rfl (lv_at hl 0 rfl) ?_
      refine mg_s S hK hP dX13_burst_13 ?_
      refine lv_iconst (v := 0) hx hb dX13_burst_16 (by decide) ?_
      refine mk_lds S hK hP (0) (by omega) rfl dX13_burst_17 ?_
      refine kb_ge_n (tgt := 53) (a := q) (b := (pN r)) S rfl ((hk1 0 (by unfold pm; omega)).trans hn) (by omega) (by omega) dX13_burst_18 (by decide) (fun c_18 => ?_) (fun c_18 => ?_)
      · skip
        have he0 : r1 = p_b1 r k := he
        subst he0
        refine lv_aload_n hx hb dX13_burst_53 rfl (lv_at hl 0 rfl) ?_
        refine mg_s S hK hP dX13_burst_54 ?_
        refine lv_iload_n hx hb dX13_burst_57 rfl (lv_at hl 1 rfl) ?_
        refine lv_iconst (v := 2) hx hb dX13_burst_58 (by decide) ?_
        refine c_at S (rm_ok (Nat.le_of_ble_eq_true rfl)) hl.1 (k) (2) rfl rfl (Nat.le_of_ble_eq_true rfl) dX13_burst_59 ?_
        refine lv_iconst (v := 0) hx hb dX13_burst_62 (by decide) ?_
        refine mk_sts S hK hP hS ((16 + 7 * k + 2)) (by omega) rfl dX13_burst_63 (fun H locs hP hS => ?_)
        refine lv_aload_n hx hb dX13_burst_64 rfl (lv_at hl 0 rfl) ?_
        refine mg_s S hK hP dX13_burst_65 ?_
        refine lv_iload_n hx hb dX13_burst_68 rfl (lv_at hl 1 rfl) ?_
        refine lv_iconst (v := 5) hx hb dX13_burst_69 (by decide) ?_
        refine c_at S (rm_ok (Nat.le_of_ble_eq_true rfl)) hl.1 (k) (5) rfl rfl (Nat.le_of_ble_eq_true rfl) dX13_burst_70 ?_
        refine lv_iconst (v := 0) hx hb dX13_burst_73 (by decide) ?_
        refine mk_sts S hK hP hS ((16 + 7 * k + 5)) (by omega) rfl dX13_burst_74 (fun H locs hP hS => ?_)
        refine lv_aload_n hx hb dX13_burst_75 rfl (lv_at hl 0 rfl) ?_
        refine mg_s S hK hP dX13_burst_76 ?_
        refine lv_iload_n hx hb dX13_burst_79 rfl (lv_at hl 1 rfl) ?_
        refine lv_bipush (v := 6) hx hb dX13_burst_80 (by decide) ?_
        refine c_at S (rm_ok (Nat.le_of_ble_eq_true rfl)) hl.1 (k) (6) rfl rfl (Nat.le_of_ble_eq_true rfl) dX13_burst_82 ?_
        refine lv_sipush (v := 999) hx hb dX13_burst_85 (by decide) ?_
        refine lv_aload_n hx hb dX13_burst_88 rfl (lv_at hl 0 rfl) ?_
        refine lv_iload_n hx hb dX13_burst_89 rfl (lv_at hl 1 rfl) ?_
        refine lv_bipush (v := 6) hx hb dX13_burst_90 (by decide) ?_
        refine c_its S hK hP (rm_ok (Nat.le_of_ble_eq_true rfl)) hl.1 (k) (6) (by omega) (by omega) rfl rfl (Nat.le_of_ble_eq_true rfl) dX13_burst_92 ?_
        refine lv_iconst (v := 1) hx hb dX13_burst_95 (by decide) ?_
        refine lv_iadd hx hb dX13_burst_96 ?_
        refine c_least S (rm_ok (Nat.le_of_ble_eq_true rfl)) hl.1 (Nat.le_of_ble_eq_true rfl) dX13_burst_97 ?_
        refine mk_sts S hK hP hS ((16 + 7 * k + 6)) (by omega) rfl dX13_burst_100 (fun H locs hP hS => ?_)
        refine lv_aload_n hx hb dX13_burst_101 rfl (lv_at hl 0 rfl) ?_
        refine mg_s S hK hP dX13_burst_102 ?_
        refine lv_iconst (v := 3) hx hb dX13_burst_105 (by decide) ?_
        refine lv_ldc (v := 99999) hx hb hown (hts _ q1387) dX13_burst_106 ?_
        refine lv_aload_n hx hb dX13_burst_108 rfl (lv_at hl 0 rfl) ?_
        refine mg_s S hK hP dX13_burst_109 ?_
        refine lv_iconst (v := 3) hx hb dX13_burst_112 (by decide) ?_
        refine mk_lds S hK hP (3) (by omega) rfl dX13_burst_113 ?_
        refine lv_iconst (v := 1) hx hb dX13_burst_114 (by decide) ?_
        refine lv_iadd hx hb dX13_burst_115 ?_
        refine c_least S (rm_ok (Nat.le_of_ble_eq_true rfl)) hl.1 (Nat.le_of_ble_eq_true rfl) dX13_burst_116 ?_
        refine mk_sts S hK hP hS (3) (by omega) rfl dX13_burst_119 (fun H locs hP hS => ?_)
        exact kk_vretW S hr hlk hS (hP) dX13_burst_120
      · exact absurd c_18 (by omega)
    | succ j ih =>
      intro q  r1 H locs ls hkj he hk1 hP hS hl
      have ih_11 := ih
      refine lv_iload_n hx hb dX13_burst_11 rfl (lv_at hl 3 rfl) ?_
      refine lv_aload_n hx hb dX13_burst_12 rfl (lv_at hl 0 rfl) ?_
      refine mg_s S hK hP dX13_burst_13 ?_
      refine lv_iconst (v := 0) hx hb dX13_burst_16 (by decide) ?_
      refine mk_lds S hK hP (0) (by omega) rfl dX13_burst_17 ?_
      refine kb_ge_n (tgt := 53) (a := q) (b := (pN r)) S rfl ((hk1 0 (by unfold pm; omega)).trans hn) (by omega) (by omega) dX13_burst_18 (by decide) (fun c_18 => ?_) (fun c_18 => ?_)
      · exact absurd c_18 (by omega)
      · skip
        refine lv_iload_n hx hb dX13_burst_21 rfl (lv_at hl 3 rfl) ?_
        refine lv_iload_n hx hb dX13_burst_22 rfl (lv_at hl 1 rfl) ?_
        refine kb_eq_n (tgt := 47) (a := q) (b := k) S rfl rfl (by omega) (by omega) dX13_burst_23 (by decide) (fun c_23 => ?_) (fun c_23 => ?_)
        · skip
          refine lv_iinc (v := (nI (q + 1))) (lv' := [(3, .int ((nI (q + 1)))), (0, .ref (t.2.1 0)), (1, .int ((nI k))), (2, .int ((r (16 + 7 * k + 2) / 2)))]) hx hb dX13_burst_47 hl (k := 3) rfl (nn_1 rfl) (by decide) rfl (fun ls hl => ?_)
          refine lv_goto (tgt := 11) hx hb dX13_burst_50 (by decide) ?_
          exact ih_11 ((q + 1)) _ _ _ ls (by omega) (by have h := he; rw [lp, p_b1f] at h; rw [if_pos c_23] at h; exact h) (hk1) hP hS (lv_sub hl [1, 2, 3, 0] rfl)
        · skip
          refine lv_aload_n hx hb dX13_burst_26 rfl (lv_at hl 0 rfl) ?_
          refine lv_iload_n hx hb dX13_burst_27 rfl (lv_at hl 3 rfl) ?_
          refine lv_iconst (v := 1) hx hb dX13_burst_28 (by decide) ?_
          refine c_its S hK hP (rm_ok (Nat.le_of_ble_eq_true rfl)) hl.1 (q) (1) (by omega) (by omega) rfl rfl (Nat.le_of_ble_eq_true rfl) dX13_burst_29 ?_
          refine lv_aload_n hx hb dX13_burst_32 rfl (lv_at hl 0 rfl) ?_
          refine lv_iload_n hx hb dX13_burst_33 rfl (lv_at hl 1 rfl) ?_
          refine lv_iconst (v := 1) hx hb dX13_burst_34 (by decide) ?_
          refine c_its S hK hP (rm_ok (Nat.le_of_ble_eq_true rfl)) hl.1 (k) (1) (by omega) (by omega) rfl rfl (Nat.le_of_ble_eq_true rfl) dX13_burst_35 ?_
          refine lv_icmp_ne (tgt := 47) hx hb dX13_burst_38 (by decide) (fun c_38 => ?_) (fun c_38 => ?_)
          · skip
            refine lv_iinc (v := (nI (q + 1))) (lv' := [(3, .int ((nI (q + 1)))), (0, .ref (t.2.1 0)), (1, .int ((nI k))), (2, .int ((r (16 + 7 * k + 2) / 2)))]) hx hb dX13_burst_47 hl (k := 3) rfl (nn_1 rfl) (by decide) rfl (fun ls hl => ?_)
            refine lv_goto (tgt := 11) hx hb dX13_burst_50 (by decide) ?_
            exact ih_11 ((q + 1)) _ _ _ ls (by omega) (by have h := he; rw [lp, p_b1f] at h; rw [if_neg c_23, if_neg c_38] at h; exact h) (hk1) hP hS (lv_sub hl [1, 2, 3, 0] rfl)
          · skip
            refine lv_aload_n hx hb dX13_burst_41 rfl (lv_at hl 0 rfl) ?_
            refine lv_iload_n hx hb dX13_burst_42 rfl (lv_at hl 3 rfl) ?_
            refine lv_iload_n hx hb dX13_burst_43 rfl (lv_at hl 2 rfl) ?_
            refine c_more S hK hP hS (rm_ok (Nat.le_of_ble_eq_true rfl)) hl.1 (q) (by omega) rfl (Nat.le_of_ble_eq_true rfl) dX13_burst_44 (fun H locs hP hS => ?_)
            refine lv_iinc (v := (nI (q + 1))) (lv' := [(3, .int ((nI (q + 1)))), (0, .ref (t.2.1 0)), (1, .int ((nI k))), (2, .int ((r (16 + 7 * k + 2) / 2)))]) hx hb dX13_burst_47 hl (k := 3) rfl (nn_1 rfl) (by decide) rfl (fun ls hl => ?_)
            refine lv_goto (tgt := 11) hx hb dX13_burst_50 (by decide) ?_
            exact ih_11 ((q + 1)) _ _ _ ls (by omega) (by have h := he; rw [lp, p_b1f] at h; rw [if_neg c_23, if_pos c_38] at h; exact h) (kp_more hk1 (by omega)) hP hS (lv_sub hl [1, 2, 3, 0] rfl)
  exact lp_11 (pN r) 0 _ _ _ ls (by omega) (rfl) (kp.rf) hP hS (lv_sub hl [2, 3, 1, 0] rfl)
section MC
variable {p : Program} {l : Launch} {e : Env} {R : Room} {s : State} {m : MethodId} {args : Array Value} {below : List Frame} {meth : Method} {c : Code} {H H0 : Heap} {locs : List Loc} {cells slots : Nat} {Q : State → Prop}
variable {cc : ByteArray} {pc nL : Nat} {ls : Array Slot} {rest : List Value} {t : MT} {r : Rw} {x : Nat → Rw}
theorem c_burst (S : CallFix p m c cc nL s args lw_all RX13) (hK : mK t s) (hP : mW t r x H) (hS : va_S (mA t) H0 H locs) (hR : kRm R 3 cells slots) (hsz : ls.size = nL) (k : Nat) (b : Nat) (hk : k < 8) (hV : pV b r) {i0 : Int32} (e0 : i0 = nI k) (hrest : (rest.map fun v => v.category).sum ≤ 8) (hdg : decode cc pc = .ok (.invokevirtual 115, 3)) (kk : ∀ (H1 : Heap) (locs1 : List Loc), mW t (p_burst r k) (x) H1 → va_S (mA t) H0 H1 locs1 → W p l e R s m args below meth c H1 locs1 cells slots Q (F0 m (pc + 3) ls (rest))) : W p l e R s m args below meth c H locs cells slots Q (F0 m pc ls (.int i0 :: .ref (t.2.1 0) :: rest)) := by
  subst e0
  exact kk_Wv (W.runV (As := [.int (nI k)]) (rest := rest) S (k_burst l t r x k b hk hV) (cwV 1 S.2.2.2.2 (lw_V q1412 q1414 qs70 q117 q1415) rfl rfl rfl (by decide +kernel) ⟨hR.1, by have := hR.2.1; show 8 + (4 + 11) + 38 * 2 ≤ R.locals; omega⟩) ⟨m_blind, m_recv hK hP, m_pre hK hP⟩ rfl rfl hsz rfl (lv_room hrest) hdg ⟨hR.2.2.1, hR.2.2.2⟩) hS (fun _ h => h) (fun _ h => h) (fun H1 locs1 hB _ _ hS => kk H1 locs1 hB hS)
end MC

set_option maxHeartbeats 4000000 in
set_option maxRecDepth 100000 in
theorem k_as (l : Launch) (t : MT) (r : Rw) (x : Nat → Rw) (y : Int32) (w : Int32) (b : Nat) (hV : pV b r) : Met l yX13_as (ws_ yX13_as cX13_as 4 (some .int)) (rmF 1) (va_Pc [.ref (t.2.1 0), .int y, .int w] (fun U => mK t U ∧ mW t r x U.heap)) (kW (some (.int ((o_as r y w).1))) (mW t ((o_as r y w).2.1) (fx x (o_as r y w).2.2)) (mA t)) 0 0 (mA t) := by
  refine kk_start (by decide) (Nat.le_of_ble_eq_true rfl) ?_
  intro p e s m below meth c S hr hlk hin hB ls hl
  obtain ⟨hK, hP⟩ := hB
  have hx := S.1
  have hb := S.2.1
  have hown : s.vm.findClass RX13 = some m.cls := S.2.2.2.1
  have hts := S.2.2.2.2
  have hS : va_S (mA t) s.heap s.heap [] := va_S.rf
  have hl : lv_has ls 4 [(0, .ref (t.2.1 0)), (1, .int (y)), (2, .int (w))] := hl
  refine lv_iload_n hx hb dX13_as_0 rfl (lv_at hl 1 rfl) ?_
  refine lv_i2l hx hb dX13_as_1 rfl ?_
  refine lv_lconst (v := (0 : Int32).toInt64) hx hb dX13_as_2 (by decide) ?_
  refine lv_ldc2 (v := ((9) : Int32).toInt64) hx hb hown (hts _ q1297) dX13_as_3 ?_
  refine c_isIn S (rm_ok (Nat.le_of_ble_eq_true rfl)) hl.1 (Nat.le_of_ble_eq_true rfl) dX13_as_6 ?_
  refine kb_ifeq (tgt := 24) S dX13_as_9 (by decide) (fun c_9 => ?_) (fun c_9 => ?_)
  · skip
    refine lv_aload_n hx hb dX13_as_24 rfl (lv_at hl 0 rfl) ?_
    refine lv_ldc (v := (-1000001)) hx hb hown (hts _ q1305) dX13_as_25 ?_
    refine c_finds S hK hP hS (rm_ok (Nat.le_of_ble_eq_true rfl)) hl.1 (0) (by decide) (by decide) (Nat.le_of_ble_eq_true rfl) dX13_as_27 (fun H locs hP hS => ?_)
    exact kk_iretW S hr hlk hS (by simp only [o_as, c_9, reduceIte, and_self, oF, oK, fx]; exact hP) (by simp only [o_as, c_9, reduceIte, and_self, oF, oK, fnd] <;> first | rfl | decide) dX13_as_30
  · skip
    refine lv_iload_n hx hb dX13_as_12 rfl (lv_at hl 2 rfl) ?_
    refine lv_i2l hx hb dX13_as_13 rfl ?_
    refine lv_lconst (v := (0 : Int32).toInt64) hx hb dX13_as_14 (by decide) ?_
    refine lv_ldc2 (v := ((6) : Int32).toInt64) hx hb hown (hts _ q1336) dX13_as_15 ?_
    refine c_isIn S (rm_ok (Nat.le_of_ble_eq_true rfl)) hl.1 (Nat.le_of_ble_eq_true rfl) dX13_as_18 ?_
    refine kb_ifne (tgt := 31) S dX13_as_21 (by decide) (fun c_21 => ?_) (fun c_21 => ?_)
    · skip
      obtain ⟨y_, hy_, rfl⟩ := nat_of_le (n := 9) (rfl) (by omega) c_9
      have hcl_y_ := nI_clamp (n := y_) (by omega)
      refine lv_aload_n hx hb dX13_as_31 rfl (lv_at hl 0 rfl) ?_
      refine mg_s S hK hP dX13_as_32 ?_
      refine lv_bipush (v := 72) hx hb dX13_as_35 (by decide) ?_
      refine lv_iload_n hx hb dX13_as_37 rfl (lv_at hl 1 rfl) ?_
      refine lv_iadd hx hb dX13_as_38 ?_
      refine mk_lds S hK hP ((72 + y_)) (by omega) (nn_add rfl rfl) dX13_as_39 ?_
      refine lv_istore_n (lv' := [(3, .int (r ((72 + y_)))), (0, .ref (t.2.1 0)), (1, .int ((nI y_))), (2, .int (w))]) hx hb dX13_as_40 rfl hl (by decide) rfl (fun ls hl => ?_)
      refine lv_iload_n hx hb dX13_as_41 rfl (lv_at hl 0 rfl) ?_
      refine lv_if_ge (tgt := 53) hx hb dX13_as_42 (by decide) (fun c_42 => ?_) (fun c_42 => ?_)
      · skip
        have hsp := hV.s (show y_ < 10 by omega) c_42
        have hs1 := hsp.1
        have hs8 := hsp.2
        refine lv_aload_n hx hb dX13_as_53 rfl (lv_at hl 1 rfl) ?_
        refine lv_iload_n hx hb dX13_as_54 rfl (lv_at hl 0 rfl) ?_
        refine lv_iconst (v := 0) hx hb dX13_as_55 (by decide) ?_
        refine c_its S hK hP (rm_ok (Nat.le_of_ble_eq_true rfl)) hl.1 ((r (72 + y_)).toNatClampNeg) (0) hs8 (by omega) hs1 rfl (Nat.le_of_ble_eq_true rfl) dX13_as_56 ?_
        refine lv_iload_n hx hb dX13_as_59 rfl (lv_at hl 3 rfl) ?_
        refine c_isUnder S (rm_ok (Nat.le_of_ble_eq_true rfl)) hl.1 (Nat.le_of_ble_eq_true rfl) dX13_as_60 ?_
        refine kb_ifeq (tgt := 70) S dX13_as_63 (by decide) (fun c_63 => ?_) (fun c_63 => ?_)
        · skip
          refine lv_aload_n hx hb dX13_as_70 rfl (lv_at hl 1 rfl) ?_
          refine lv_ldcw (v := (-1000003)) hx hb hown (hts _ q1664) dX13_as_71 ?_
          refine c_finds S hK hP hS (rm_ok (Nat.le_of_ble_eq_true rfl)) hl.1 (2) (by decide) (by decide) (Nat.le_of_ble_eq_true rfl) dX13_as_74 (fun H locs hP hS => ?_)
          exact kk_iretW S hr hlk hS (by simp only [o_as, c_9, c_21, c_42, c_63, hcl_y_, reduceIte, and_self, oF, oK, fx]; exact hP) (by simp only [o_as, c_9, c_21, c_42, c_63, hcl_y_, reduceIte, and_self, oF, oK, fnd] <;> first | rfl | decide) dX13_as_77
        · skip
          refine lv_iload_n hx hb dX13_as_66 rfl (lv_at hl 0 rfl) ?_
          refine lv_goto (tgt := 77) hx hb dX13_as_67 (by decide) ?_
          exact kk_iretW S hr hlk hS (by simp only [o_as, c_9, c_21, c_42, c_63, hcl_y_, reduceIte, and_self, oF, oK, fx]; exact hP) (by simp only [o_as, c_9, c_21, c_42, c_63, hcl_y_, reduceIte, and_self, oF, oK, fnd] <;> first | rfl | decide) dX13_as_77
      · skip
        refine lv_aload_n hx hb dX13_as_45 rfl (lv_at hl 1 rfl) ?_
        refine lv_ldcw (v := (-1000006)) hx hb hown (hts _ q1543) dX13_as_46 ?_
        refine c_finds S hK hP hS (rm_ok (Nat.le_of_ble_eq_true rfl)) hl.1 (5) (by decide) (by decide) (Nat.le_of_ble_eq_true rfl) dX13_as_49 (fun H locs hP hS => ?_)
        exact kk_iretW S hr hlk hS (by simp only [o_as, c_9, c_21, c_42, hcl_y_, reduceIte, and_self, oF, oK, fx]; exact hP) (by simp only [o_as, c_9, c_21, c_42, hcl_y_, reduceIte, and_self, oF, oK, fnd] <;> first | rfl | decide) dX13_as_52
    · skip
      refine lv_aload_n hx hb dX13_as_24 rfl (lv_at hl 0 rfl) ?_
      refine lv_ldc (v := (-1000001)) hx hb hown (hts _ q1305) dX13_as_25 ?_
      refine c_finds S hK hP hS (rm_ok (Nat.le_of_ble_eq_true rfl)) hl.1 (0) (by decide) (by decide) (Nat.le_of_ble_eq_true rfl) dX13_as_27 (fun H locs hP hS => ?_)
      exact kk_iretW S hr hlk hS (by simp only [o_as, c_9, c_21, reduceIte, and_self, oF, oK, fx]; exact hP) (by simp only [o_as, c_9, c_21, reduceIte, and_self, oF, oK, fnd] <;> first | rfl | decide) dX13_as_30
set_option maxHeartbeats 4000000 in
set_option maxRecDepth 100000 in
theorem k_image (l : Launch) (t : MT) (r : Rw) (x : Nat → Rw) : Met l yX13_image (ws_ yX13_image cX13_image 1 (some .int)) (rmF 1) (va_Pc [.ref (t.2.1 0)] (fun U => mK t U ∧ mW t r x U.heap)) (kW (some (.int (1))) (mW t (r) (va_up (va_up x 1 r) 9 (upd (x 9) 0 1))) (mA t)) 0 0 (mA t) := by
  refine kk_start (by decide) (Nat.le_of_ble_eq_true rfl) ?_
  intro p e s m below meth c S hr hlk hin hB ls hl
  obtain ⟨hK, hP⟩ := hB
  have hx := S.1
  have hb := S.2.1
  have hown : s.vm.findClass RX13 = some m.cls := S.2.2.2.1
  have hts := S.2.2.2.2
  have hS : va_S (mA t) s.heap s.heap [] := va_S.rf
  have hl : lv_has ls 1 [(0, .ref (t.2.1 0))] := hl
  refine lv_aload_n hx hb dX13_image_0 rfl (lv_at hl 0 rfl) ?_
  refine mg_s S hK hP dX13_image_1 ?_
  refine lv_aload_n hx hb dX13_image_4 rfl (lv_at hl 0 rfl) ?_
  refine mg_kept S hK hP dX13_image_5 ?_
  refine c_copyRow_1_2 S hK hP hS (rm_ok (Nat.le_of_ble_eq_true rfl)) hl.1 (Nat.le_of_ble_eq_true rfl) dX13_image_8 (fun H locs hP hS => ?_)
  refine lv_aload_n hx hb dX13_image_11 rfl (lv_at hl 0 rfl) ?_
  refine lv_iconst (v := 1) hx hb dX13_image_12 (by decide) ?_
  refine mp_isKept S hK hP hS rfl rfl dX13_image_13 (fun H locs hP hS => ?_)
  refine lv_iconst (v := 1) hx hb dX13_image_16 (by decide) ?_
  exact kk_iretW S hr hlk hS (hP) (rfl) dX13_image_17
set_option maxHeartbeats 4000000 in
set_option maxRecDepth 100000 in
theorem k_undo (l : Launch) (t : MT) (r : Rw) (x : Nat → Rw) : Met l yX13_undo (ws_ yX13_undo cX13_undo 1 (some .int)) (rmF 1) (va_Pc [.ref (t.2.1 0)] (fun U => mK t U ∧ mW t r x U.heap)) (kW (some (.int (if x 9 0 = 0 then fnd 3 else x 1 1))) (mW t (if x 9 0 = 0 then r else x 1) (if x 9 0 = 0 then va_up x 4 (p_fnd (x 4) 3) else x)) (mA t)) 0 0 (mA t) := by
  refine kk_start (by decide) (Nat.le_of_ble_eq_true rfl) ?_
  intro p e s m below meth c S hr hlk hin hB ls hl
  obtain ⟨hK, hP⟩ := hB
  have hx := S.1
  have hb := S.2.1
  have hown : s.vm.findClass RX13 = some m.cls := S.2.2.2.1
  have hts := S.2.2.2.2
  have hS : va_S (mA t) s.heap s.heap [] := va_S.rf
  have hl : lv_has ls 1 [(0, .ref (t.2.1 0))] := hl
  refine lv_aload_n hx hb dX13_undo_0 rfl (lv_at hl 0 rfl) ?_
  refine mg_isKept S hK hP dX13_undo_1 ?_
  refine lv_if_ne (tgt := 14) hx hb dX13_undo_4 (by decide) (fun c_4 => ?_) (fun c_4 => ?_)
  · skip
    refine lv_aload_n hx hb dX13_undo_14 rfl (lv_at hl 0 rfl) ?_
    refine mg_kept S hK hP dX13_undo_15 ?_
    refine lv_aload_n hx hb dX13_undo_18 rfl (lv_at hl 0 rfl) ?_
    refine mg_s S hK hP dX13_undo_19 ?_
    refine c_copyRow_2_1 S hK hP hS (rm_ok (Nat.le_of_ble_eq_true rfl)) hl.1 (Nat.le_of_ble_eq_true rfl) dX13_undo_22 (fun H locs hP hS => ?_)
    refine lv_aload_n hx hb dX13_undo_25 rfl (lv_at hl 0 rfl) ?_
    refine mg_s S hK hP dX13_undo_26 ?_
    refine lv_iconst (v := 1) hx hb dX13_undo_29 (by decide) ?_
    refine mk_lds S hK hP (1) (by omega) rfl dX13_undo_30 ?_
    exact kk_iretW S hr hlk hS (by rw [if_neg c_4, if_neg c_4]; exact hP) (by rw [if_neg c_4]) dX13_undo_31
  · skip
    refine lv_aload_n hx hb dX13_undo_7 rfl (lv_at hl 0 rfl) ?_
    refine lv_ldc (v := (-1000004)) hx hb hown (hts _ q1462) dX13_undo_8 ?_
    refine c_finds S hK hP hS (rm_ok (Nat.le_of_ble_eq_true rfl)) hl.1 (3) (by decide) (by decide) (Nat.le_of_ble_eq_true rfl) dX13_undo_10 (fun H locs hP hS => ?_)
    exact kk_iretW S hr hlk hS (by rw [if_pos c_4, if_pos c_4]; exact hP) (by rw [if_pos c_4]; decide) dX13_undo_13
set_option maxHeartbeats 4000000 in
set_option maxRecDepth 100000 in
theorem k_tear (l : Launch) (t : MT) (r : Rw) (x : Nat → Rw) : Met l yX13_tear (ws_ yX13_tear cX13_tear 2 (some .int)) (rmF 0) (va_Pc [.ref (t.2.1 0)] (fun U => mK t U ∧ mW t r x U.heap)) (kW (some (.int (if x 9 0 = 0 then 0 else 1))) (mW t (r) (va_up x 9 (upd (x 9) 0 0))) (mA t)) 0 0 (mA t) := by
  refine kk_start (by decide) (Nat.le_of_ble_eq_true rfl) ?_
  intro p e s m below meth c S hr hlk hin hB ls hl
  obtain ⟨hK, hP⟩ := hB
  have hx := S.1
  have hb := S.2.1
  have hown : s.vm.findClass RX13 = some m.cls := S.2.2.2.1
  have hts := S.2.2.2.2
  have hS : va_S (mA t) s.heap s.heap [] := va_S.rf
  have hl : lv_has ls 2 [(0, .ref (t.2.1 0))] := hl
  refine lv_aload_n hx hb dX13_tear_0 rfl (lv_at hl 0 rfl) ?_
  refine mg_isKept S hK hP dX13_tear_1 ?_
  refine lv_istore_n (lv' := [(1, .int (x 9 0)), (0, .ref (t.2.1 0))]) hx hb dX13_tear_4 rfl hl (by decide) rfl (fun ls hl => ?_)
  refine lv_aload_n hx hb dX13_tear_5 rfl (lv_at hl 1 rfl) ?_
  refine lv_iconst (v := 0) hx hb dX13_tear_6 (by decide) ?_
  refine mp_isKept S hK hP hS rfl rfl dX13_tear_7 (fun H locs hP hS => ?_)
  refine lv_iload_n hx hb dX13_tear_10 rfl (lv_at hl 0 rfl) ?_
  refine lv_if_eq (tgt := 18) hx hb dX13_tear_11 (by decide) (fun c_11 => ?_) (fun c_11 => ?_)
  · skip
    refine lv_iconst (v := 0) hx hb dX13_tear_18 (by decide) ?_
    exact kk_iretW S hr hlk hS (hP) (by rw [if_pos c_11]) dX13_tear_19
  · skip
    refine lv_iconst (v := 1) hx hb dX13_tear_14 (by decide) ?_
    refine lv_goto (tgt := 19) hx hb dX13_tear_15 (by decide) ?_
    exact kk_iretW S hr hlk hS (hP) (by rw [if_neg c_11]) dX13_tear_19
set_option maxHeartbeats 4000000 in
set_option maxRecDepth 100000 in
theorem k_count (l : Launch) (t : MT) (r : Rw) (x : Nat → Rw) (w : Int32) (b : Nat) (hV : pV b r) : Met l yX13_count (ws_ yX13_count cX13_count 4 (some .int)) (rmF 4) (va_Pc [.ref (t.2.1 0), .int w] (fun U => mK t U ∧ mW t r x U.heap)) (kW (some (.int ((o_count (x 9 1) r w).1))) (mW t ((o_count (x 9 1) r w).2.1) (fx x (o_count (x 9 1) r w).2.2)) (mA t)) 0 0 (mA t) := by
  refine kk_start (by decide) (Nat.le_of_ble_eq_true rfl) ?_
  intro p e s m below meth c S hr hlk hin hB ls hl
  obtain ⟨hK, hP⟩ := hB
  have hx := S.1
  have hb := S.2.1
  have hown : s.vm.findClass RX13 = some m.cls := S.2.2.2.1
  have hts := S.2.2.2.2
  have hS : va_S (mA t) s.heap s.heap [] := va_S.rf
  have hl : lv_has ls 4 [(0, .ref (t.2.1 0)), (1, .int (w))] := hl
  have hn := hV.n.1
  have hn8 := hV.n.2
  refine lv_iconst (v := 0) hx hb dX13_count_0 (by decide) ?_
  refine lv_istore_n (lv' := [(2, .int (0)), (0, .ref (t.2.1 0)), (1, .int (w))]) hx hb dX13_count_1 rfl hl (by decide) rfl (fun ls hl => ?_)
  refine lv_iload_n hx hb dX13_count_2 rfl (lv_at hl 2 rfl) ?_
  by_cases c_3 : 0 ≤ w ∧ w < 8
  · skip
    obtain ⟨w_, hw_, rfl⟩ := nat_of_lt (n := 8) rfl (by omega) c_3
    have hcl_w_ := nI_clamp (n := w_) (by omega)
    rcases (show w_ = 0 ∨ w_ = 1 ∨ w_ = 2 ∨ w_ = 3 ∨ w_ = 4 ∨ w_ = 5 ∨ w_ = 6 ∨ w_ = 7 by omega) with k_3 | k_3 | k_3 | k_3 | k_3 | k_3 | k_3 | k_3
    · skip
      refine kb_tabIn (tgt := 48) S ((rfl).trans (congrArg nI k_3)) (by decide) dX13_count_3 (by decide) (by decide) rfl (by decide) ?_
      subst k_3
      refine lv_aload_n hx hb dX13_count_48 rfl (lv_at hl 1 rfl) ?_
      refine mg_s S hK hP dX13_count_49 ?_
      refine lv_iconst (v := 1) hx hb dX13_count_52 (by decide) ?_
      refine mk_lds S hK hP (1) (by omega) rfl dX13_count_53 ?_
      exact kk_iretW S hr hlk hS (by simp only [o_count, c_3, hcl_w_, reduceIte, and_self, oF, oK, fx]; exact hP) (by simp only [o_count, c_3, hcl_w_, reduceIte, and_self, oF, oK, fnd] <;> first | rfl | decide) dX13_count_54
    · skip
      refine kb_tabIn (tgt := 55) S ((rfl).trans (congrArg nI k_3)) (by decide) dX13_count_3 (by decide) (by decide) rfl (by decide) ?_
      subst k_3
      refine lv_aload_n hx hb dX13_count_55 rfl (lv_at hl 1 rfl) ?_
      refine mg_s S hK hP dX13_count_56 ?_
      refine lv_iconst (v := 0) hx hb dX13_count_59 (by decide) ?_
      refine mk_lds S hK hP (0) (by omega) rfl dX13_count_60 ?_
      exact kk_iretW S hr hlk hS (by simp only [o_count, c_3, hcl_w_, reduceIte, and_self, oF, oK, fx]; exact hP) (by simp only [o_count, c_3, hcl_w_, reduceIte, and_self, oF, oK, fnd] <;> first | rfl | decide) dX13_count_61
    · skip
      refine kb_tabIn (tgt := 62) S ((rfl).trans (congrArg nI k_3)) (by decide) dX13_count_3 (by decide) (by decide) rfl (by decide) ?_
      subst k_3
      refine lv_aload_n hx hb dX13_count_62 rfl (lv_at hl 1 rfl) ?_
      refine lv_iconst (v := 2) hx hb dX13_count_63 (by decide) ?_
      refine c_sumOf S hK hP (rm_ok (Nat.le_of_ble_eq_true rfl)) hl.1 (2) (b) hV (by omega) rfl (Nat.le_of_ble_eq_true rfl) dX13_count_64 ?_
      exact kk_iretW S hr hlk hS (by simp only [o_count, c_3, hcl_w_, reduceIte, and_self, oF, oK, fx]; exact hP) (by simp only [o_count, c_3, hcl_w_, reduceIte, and_self, oF, oK, fnd] <;> first | rfl | decide) dX13_count_67
    · skip
      refine kb_tabIn (tgt := 68) S ((rfl).trans (congrArg nI k_3)) (by decide) dX13_count_3 (by decide) (by decide) rfl (by decide) ?_
      subst k_3
      refine lv_aload_n hx hb dX13_count_68 rfl (lv_at hl 1 rfl) ?_
      refine mg_s S hK hP dX13_count_69 ?_
      refine lv_iconst (v := 3) hx hb dX13_count_72 (by decide) ?_
      refine mk_lds S hK hP (3) (by omega) rfl dX13_count_73 ?_
      exact kk_iretW S hr hlk hS (by simp only [o_count, c_3, hcl_w_, reduceIte, and_self, oF, oK, fx]; exact hP) (by simp only [o_count, c_3, hcl_w_, reduceIte, and_self, oF, oK, fnd] <;> first | rfl | decide) dX13_count_74
    · skip
      refine kb_tabIn (tgt := 75) S ((rfl).trans (congrArg nI k_3)) (by decide) dX13_count_3 (by decide) (by decide) rfl (by decide) ?_
      subst k_3
      refine lv_aload_n hx hb dX13_count_75 rfl (lv_at hl 1 rfl) ?_
      refine lv_bipush (v := 6) hx hb dX13_count_76 (by decide) ?_
      refine c_sumOf S hK hP (rm_ok (Nat.le_of_ble_eq_true rfl)) hl.1 (6) (b) hV (by omega) rfl (Nat.le_of_ble_eq_true rfl) dX13_count_78 ?_
      exact kk_iretW S hr hlk hS (by simp only [o_count, c_3, hcl_w_, reduceIte, and_self, oF, oK, fx]; exact hP) (by simp only [o_count, c_3, hcl_w_, reduceIte, and_self, oF, oK, fnd] <;> first | rfl | decide) dX13_count_81
    · skip
      refine kb_tabIn (tgt := 82) S ((rfl).trans (congrArg nI k_3)) (by decide) dX13_count_3 (by decide) (by decide) rfl (by decide) ?_
      subst k_3
      refine lv_aload_n hx hb dX13_count_82 rfl (lv_at hl 1 rfl) ?_
      refine mg_taped S hK hP dX13_count_83 ?_
      exact kk_iretW S hr hlk hS (by simp only [o_count, c_3, hcl_w_, reduceIte, and_self, oF, oK, fx]; exact hP) (by simp only [o_count, c_3, hcl_w_, reduceIte, and_self, oF, oK, fnd] <;> first | rfl | decide) dX13_count_86
    · skip
      refine kb_tabIn (tgt := 87) S ((rfl).trans (congrArg nI k_3)) (by decide) dX13_count_3 (by decide) (by decide) rfl (by decide) ?_
      subst k_3
      refine lv_aload_n hx hb dX13_count_87 rfl (lv_at hl 1 rfl) ?_
      refine mg_s S hK hP dX13_count_88 ?_
      refine lv_iconst (v := 2) hx hb dX13_count_91 (by decide) ?_
      refine mk_lds S hK hP (2) (by omega) rfl dX13_count_92 ?_
      exact kk_iretW S hr hlk hS (by simp only [o_count, c_3, hcl_w_, reduceIte, and_self, oF, oK, fx]; exact hP) (by simp only [o_count, c_3, hcl_w_, reduceIte, and_self, oF, oK, fnd] <;> first | rfl | decide) dX13_count_93
    · skip
      refine kb_tabIn (tgt := 94) S ((rfl).trans (congrArg nI k_3)) (by decide) dX13_count_3 (by decide) (by decide) rfl (by decide) ?_
      subst k_3
      refine lv_iconst (v := 0) hx hb dX13_count_94 (by decide) ?_
      refine lv_istore_n (lv' := [(3, .int (0)), (2, .int (0)), (0, .ref (t.2.1 0)), (1, .int ((nI 7)))]) hx hb dX13_count_95 rfl hl (by decide) rfl (fun ls hl => ?_)
      have lp_96 : ∀ (j k : Nat) (q : Int32) (H : Heap) (locs : List Loc) (ls : Array Slot), k + j = 10 → (lp (fun k n => n + (if 0 ≤ r (72 + k) then 1 else 0)) j k q = p_hold r) → mW t (r) (x) H → va_S (mA t) s.heap H locs → lv_has ls 4 [(0, .ref (t.2.1 0)), (1, .int ((nI 7))), (2, .int (q)), (3, .int ((nI k)))] → W p l e (rmF 4) s m ([.ref (t.2.1 0), .int (nI 7)] : List Value).toArray below meth c H locs 0 0 (MQ below (kW (some (.int ((o_count (x 9 1) r (nI 7)).1))) (mW t ((o_count (x 9 1) r (nI 7)).2.1) (fx x (o_count (x 9 1) r (nI 7)).2.2)) (mA t)) ([.ref (t.2.1 0), .int (nI 7)] : List Value).toArray s 0 0 (mA t)) (F0 m 96 ls []) := by
        intro j
        induction j with
        | zero =>
          intro k q H locs ls hkj he hP hS hl
          refine lv_iload_n hx hb dX13_count_96 rfl (lv_at hl 3 rfl) ?_
          refine lv_bipush (v := 10) hx hb dX13_count_97 (by decide) ?_
          refine kb_ge_n (tgt := 128) (a := k) (b := 10) S rfl rfl (by omega) (by omega) dX13_count_99 (by decide) (fun c_99 => ?_) (fun c_99 => ?_)
          · skip
            refine lv_iload_n hx hb dX13_count_128 rfl (lv_at hl 2 rfl) ?_
            exact kk_iretW S hr hlk hS (by simp only [o_count, c_3, hcl_w_, reduceIte, and_self, oK, fx]; exact hP) (by simp only [o_count, c_3, hcl_w_, reduceIte, and_self, oK]; rw [← he]; rfl) dX13_count_129
          · exact absurd c_99 (by omega)
        | succ j ih =>
          intro k q H locs ls hkj he hP hS hl
          have ih_96 := ih
          refine lv_iload_n hx hb dX13_count_96 rfl (lv_at hl 3 rfl) ?_
          refine lv_bipush (v := 10) hx hb dX13_count_97 (by decide) ?_
          refine kb_ge_n (tgt := 128) (a := k) (b := 10) S rfl rfl (by omega) (by omega) dX13_count_99 (by decide) (fun c_99 => ?_) (fun c_99 => ?_)
          · exact absurd c_99 (by omega)
          · skip
            refine lv_iload_n hx hb dX13_count_102 rfl (lv_at hl 2 rfl) ?_
            refine lv_aload_n hx hb dX13_count_103 rfl (lv_at hl 0 rfl) ?_
            refine mg_s S hK hP dX13_count_104 ?_
            refine lv_bipush (v := 72) hx hb dX13_count_107 (by decide) ?_
            refine lv_iload_n hx hb dX13_count_109 rfl (lv_at hl 3 rfl) ?_
            refine lv_iadd hx hb dX13_count_110 ?_
            refine mk_lds S hK hP ((72 + k)) (by omega) (nn_add rfl rfl) dX13_count_111 ?_
            refine lv_if_ge (tgt := 119) hx hb dX13_count_112 (by decide) (fun c_112 => ?_) (fun c_112 => ?_)
            · skip
              refine lv_iconst (v := 1) hx hb dX13_count_119 (by decide) ?_
              refine lv_iadd hx hb dX13_count_120 ?_
              refine lv_istore_n (lv' := [(2, .int ((q + 1))), (0, .ref (t.2.1 0)), (1, .int ((nI 7))), (3, .int ((nI k)))]) hx hb dX13_count_121 rfl hl (by decide) rfl (fun ls hl => ?_)
              refine lv_iinc (v := (nI (k + 1))) (lv' := [(3, .int ((nI (k + 1)))), (2, .int ((q + 1))), (0, .ref (t.2.1 0)), (1, .int ((nI 7)))]) hx hb dX13_count_122 hl (k := 3) rfl (nn_1 rfl) (by decide) rfl (fun ls hl => ?_)
              refine lv_goto (tgt := 96) hx hb dX13_count_125 (by decide) ?_
              exact ih_96 ((k + 1)) _ _ _ ls (by omega) (by have h := he; simp only [lp] at h; rw [if_pos c_112] at h; exact h) hP hS (lv_sub hl [2, 3, 1, 0] rfl)
            · skip
              refine lv_iconst (v := 0) hx hb dX13_count_115 (by decide) ?_
              refine lv_goto (tgt := 120) hx hb dX13_count_116 (by decide) ?_
              refine lv_iadd hx hb dX13_count_120 ?_
              refine lv_istore_n (lv' := [(2, .int ((q + 0))), (0, .ref (t.2.1 0)), (1, .int ((nI 7))), (3, .int ((nI k)))]) hx hb dX13_count_121 rfl hl (by decide) rfl (fun ls hl => ?_)
              refine lv_iinc (v := (nI (k + 1))) (lv' := [(3, .int ((nI (k + 1)))), (2, .int ((q + 0))), (0, .ref (t.2.1 0)), (1, .int ((nI 7)))]) hx hb dX13_count_122 hl (k := 3) rfl (nn_1 rfl) (by decide) rfl (fun ls hl => ?_)
              refine lv_goto (tgt := 96) hx hb dX13_count_125 (by decide) ?_
              exact ih_96 ((k + 1)) _ _ _ ls (by omega) (by have h := he; simp only [lp] at h; rw [if_neg c_112] at h; exact h) hP hS (lv_sub hl [2, 3, 1, 0] rfl)
      exact lp_96 10 0 _ _ _ ls (by omega) (rfl) hP hS (lv_sub hl [2, 3, 1, 0] rfl)
  · skip
    refine kb_tabRaw (n := 8) (tgt := 130) S rfl (by decide) c_3 (by decide) dX13_count_3 (by decide) ?_
    refine lv_aload_n hx hb dX13_count_130 rfl (lv_at hl 1 rfl) ?_
    refine lv_ldc (v := (-1000001)) hx hb hown (hts _ q1305) dX13_count_131 ?_
    refine c_finds S hK hP hS (rm_ok (Nat.le_of_ble_eq_true rfl)) hl.1 (0) (by decide) (by decide) (Nat.le_of_ble_eq_true rfl) dX13_count_133 (fun H locs hP hS => ?_)
    exact kk_iretW S hr hlk hS (by simp only [o_count, c_3, reduceIte, and_self, oF, oK, fx]; exact hP) (by simp only [o_count, c_3, reduceIte, and_self, oF, oK, fnd] <;> first | rfl | decide) dX13_count_136
set_option maxHeartbeats 4000000 in
set_option maxRecDepth 100000 in
theorem k_status (l : Launch) (t : MT) (r : Rw) (x : Nat → Rw) (w : Int32) : Met l yX13_status (ws_ yX13_status cX13_status 2 (some .int)) (rmF 1) (va_Pc [.ref (t.2.1 0), .int w] (fun U => mK t U ∧ mW t r x U.heap)) (kW (some (.int (if -1 ≤ w ∧ w ≤ 6 then x 4 (w + 1).toNatClampNeg else fnd 0))) (mW t (r) (if -1 ≤ w ∧ w ≤ 6 then x else va_up x 4 (p_fnd (x 4) 0))) (mA t)) 0 0 (mA t) := by
  refine kk_start (by decide) (Nat.le_of_ble_eq_true rfl) ?_
  intro p e s m below meth c S hr hlk hin hB ls hl
  obtain ⟨hK, hP⟩ := hB
  have hx := S.1
  have hb := S.2.1
  have hown : s.vm.findClass RX13 = some m.cls := S.2.2.2.1
  have hts := S.2.2.2.2
  have hS : va_S (mA t) s.heap s.heap [] := va_S.rf
  have hl : lv_has ls 2 [(0, .ref (t.2.1 0)), (1, .int (w))] := hl
  refine lv_iload_n hx hb dX13_status_0 rfl (lv_at hl 1 rfl) ?_
  refine lv_i2l hx hb dX13_status_1 rfl ?_
  refine lv_ldc2 (v := ((-1) : Int32).toInt64) hx hb hown (hts _ q1706) dX13_status_2 ?_
  refine lv_ldc2 (v := ((6) : Int32).toInt64) hx hb hown (hts _ q1336) dX13_status_5 ?_
  refine c_isIn S (rm_ok (Nat.le_of_ble_eq_true rfl)) hl.1 (Nat.le_of_ble_eq_true rfl) dX13_status_8 ?_
  refine kb_ifeq (tgt := 25) S dX13_status_11 (by decide) (fun c_11 => ?_) (fun c_11 => ?_)
  · skip
    refine lv_aload_n hx hb dX13_status_25 rfl (lv_at hl 0 rfl) ?_
    refine lv_ldc (v := (-1000001)) hx hb hown (hts _ q1305) dX13_status_26 ?_
    refine c_finds S hK hP hS (rm_ok (Nat.le_of_ble_eq_true rfl)) hl.1 (0) (by decide) (by decide) (Nat.le_of_ble_eq_true rfl) dX13_status_28 (fun H locs hP hS => ?_)
    exact kk_iretW S hr hlk hS (by rw [if_neg c_11]; exact hP) (by rw [if_neg c_11]; decide) dX13_status_31
  · skip
    obtain ⟨j_, hj_, hje⟩ := st_ix c_11
    refine lv_aload_n hx hb dX13_status_14 rfl (lv_at hl 0 rfl) ?_
    refine mg_findings S hK hP dX13_status_15 ?_
    refine lv_iload_n hx hb dX13_status_18 rfl (lv_at hl 1 rfl) ?_
    refine lv_iconst (v := 1) hx hb dX13_status_19 (by decide) ?_
    refine lv_iadd hx hb dX13_status_20 ?_
    refine mk_ld4 S hK hP (j_) (by omega) hje dX13_status_21 ?_
    refine lv_goto (tgt := 31) hx hb dX13_status_22 (by decide) ?_
    exact kk_iretW S hr hlk hS (by rw [if_pos c_11]; exact hP) (by rw [if_pos c_11, hje, nI_clamp (by omega)]) dX13_status_31
set_option maxHeartbeats 4000000 in
set_option maxRecDepth 100000 in
theorem k_load (l : Launch) (t : MT) (r : Rw) (x : Nat → Rw) (v : Int32) (hs : mS x) : Met l yX13_load (ws_ yX13_load cX13_load 3 (some .int)) (rmF 2) (va_Pc [.ref (t.2.1 0), .int v] (fun U => mK t U ∧ mW t r x U.heap)) (kW (some (.int ((o_load (mSv x) r v).1))) (mW t ((o_load (mSv x) r v).2.1) (fx x (o_load (mSv x) r v).2.2)) (mA t)) 0 0 (mA t) := by
  refine kk_start (by decide) (Nat.le_of_ble_eq_true rfl) ?_
  intro p e s m below meth c S hr hlk hin hB ls hl
  obtain ⟨hK, hP⟩ := hB
  have hx := S.1
  have hb := S.2.1
  have hown : s.vm.findClass RX13 = some m.cls := S.2.2.2.1
  have hts := S.2.2.2.2
  have hS : va_S (mA t) s.heap s.heap [] := va_S.rf
  have hl : lv_has ls 3 [(0, .ref (t.2.1 0)), (1, .int (v))] := hl
  refine lv_aload_n hx hb dX13_load_0 rfl (lv_at hl 0 rfl) ?_
  refine lv_iload_n hx hb dX13_load_1 rfl (lv_at hl 1 rfl) ?_
  refine c_wants S hK hP (rm_ok (Nat.le_of_ble_eq_true rfl)) hl.1 (Nat.le_of_ble_eq_true rfl) dX13_load_2 ?_
  refine lv_if_eq (tgt := 18) hx hb dX13_load_5 (by decide) (fun c_5 => ?_) (fun c_5 => ?_)
  · skip
    have hz_ := (wI_0 (fun _ => p_w_lt)).mp c_5
    obtain ⟨hv4, q_, hq_⟩ := p_w_none hz_
    obtain ⟨v_, hv_, rfl⟩ := nat_of_lt (n := 4) rfl (by omega) hv4
    have hcl_v_ := nI_clamp (n := v_) (by omega)
    rw [hcl_v_] at hq_
    obtain ⟨hq2, hsn, hlen⟩ := mSv_s hs hv_ hq_
    refine lv_iconst (v := 0) hx hb dX13_load_18 (by decide) ?_
    refine lv_istore_n (lv' := [(2, .int (0)), (0, .ref (t.2.1 0)), (1, .int ((nI v_)))]) hx hb dX13_load_19 rfl hl (by decide) rfl (fun ls hl => ?_)
    have lp_20 : ∀ (j k : Nat) (r1 : Rw) (H : Heap) (locs : List Loc) (ls : Array Slot), k + j = min (x 7 v_).toNatClampNeg 6 → (p_ldl (fun u => x 8 (40 * v_ + u)) j k r1 = (p_ldl (fun u => x 8 (40 * v_ + u)) (min (x 7 v_).toNatClampNeg 6) 0 r)) → mW t (r1) (x) H → va_S (mA t) s.heap H locs → lv_has ls 3 [(0, .ref (t.2.1 0)), (1, .int ((nI v_))), (2, .int ((nI k)))] → W p l e (rmF 2) s m ([.ref (t.2.1 0), .int (nI v_)] : List Value).toArray below meth c H locs 0 0 (MQ below (kW (some (.int ((o_load (mSv x) r (nI v_)).1))) (mW t ((o_load (mSv x) r (nI v_)).2.1) (fx x (o_load (mSv x) r (nI v_)).2.2)) (mA t)) ([.ref (t.2.1 0), .int (nI v_)] : List Value).toArray s 0 0 (mA t)) (F0 m 20 ls []) := by
      intro j
      induction j with
      | zero =>
        intro k  r1 H locs ls hkj he hP hS hl
        refine lv_iload_n hx hb dX13_load_20 rfl (lv_at hl 2 rfl) ?_
        refine lv_aload_n hx hb dX13_load_21 rfl (lv_at hl 0 rfl) ?_
        refine mg_sizes S hK hP dX13_load_22 ?_
        refine lv_iload_n hx hb dX13_load_25 rfl (lv_at hl 1 rfl) ?_
        refine mk_ld7 S hK hP (v_) (by omega) rfl dX13_load_26 ?_
        refine kb_ge_n (tgt := 84) (a := k) (b := ((x 7 v_).toNatClampNeg)) S rfl hsn (by omega) (by omega) dX13_load_27 (by decide) (fun c_27 => ?_) (fun c_27 => ?_)
        · skip
          have hpl : p_load (mSv x) r (nI v_) = (p_ldl (fun u => x 8 (40 * v_ + u)) (min (x 7 v_).toNatClampNeg 6) 0 r) := by unfold p_load; rw [hcl_v_, hq_, hq2]
          have hres : (p_ldl (fun u => x 8 (40 * v_ + u)) (min (x 7 v_).toNatClampNeg 6) 0 r) = (k, r1) := by rw [← he]; rfl
          refine lv_iload_n hx hb dX13_load_84 rfl (lv_at hl 2 rfl) ?_
          exact kk_iretW S hr hlk hS (by rw [o_load, hz_]; show mW t (p_load (mSv x) r (nI v_)).2 x H; rw [hpl, hres]; exact hP) (by rw [o_load, hz_]; show nI k = nI (p_load (mSv x) r (nI v_)).1; rw [hpl, hres]) dX13_load_85
        · skip
          refine lv_iload_n hx hb dX13_load_30 rfl (lv_at hl 2 rfl) ?_
          refine lv_bipush (v := 6) hx hb dX13_load_31 (by decide) ?_
          refine kb_ge_n (tgt := 84) (a := k) (b := 6) S rfl rfl (by omega) (by omega) dX13_load_33 (by decide) (fun c_33 => ?_) (fun c_33 => ?_)
          · skip
            have hpl : p_load (mSv x) r (nI v_) = (p_ldl (fun u => x 8 (40 * v_ + u)) (min (x 7 v_).toNatClampNeg 6) 0 r) := by unfold p_load; rw [hcl_v_, hq_, hq2]
            have hres : (p_ldl (fun u => x 8 (40 * v_ + u)) (min (x 7 v_).toNatClampNeg 6) 0 r) = (k, r1) := by rw [← he]; rfl
            refine lv_iload_n hx hb dX13_load_84 rfl (lv_at hl 2 rfl) ?_
            exact kk_iretW S hr hlk hS (by rw [o_load, hz_]; show mW t (p_load (mSv x) r (nI v_)).2 x H; rw [hpl, hres]; exact hP) (by rw [o_load, hz_]; show nI k = nI (p_load (mSv x) r (nI v_)).1; rw [hpl, hres]) dX13_load_85
          · exact absurd c_33 (by omega)
      | succ j ih =>
        intro k  r1 H locs ls hkj he hP hS hl
        have ih_20 := ih
        refine lv_iload_n hx hb dX13_load_20 rfl (lv_at hl 2 rfl) ?_
        refine lv_aload_n hx hb dX13_load_21 rfl (lv_at hl 0 rfl) ?_
        refine mg_sizes S hK hP dX13_load_22 ?_
        refine lv_iload_n hx hb dX13_load_25 rfl (lv_at hl 1 rfl) ?_
        refine mk_ld7 S hK hP (v_) (by omega) rfl dX13_load_26 ?_
        refine kb_ge_n (tgt := 84) (a := k) (b := ((x 7 v_).toNatClampNeg)) S rfl hsn (by omega) (by omega) dX13_load_27 (by decide) (fun c_27 => ?_) (fun c_27 => ?_)
        · exact absurd c_27 (by omega)
        · skip
          refine lv_iload_n hx hb dX13_load_30 rfl (lv_at hl 2 rfl) ?_
          refine lv_bipush (v := 6) hx hb dX13_load_31 (by decide) ?_
          refine kb_ge_n (tgt := 84) (a := k) (b := 6) S rfl rfl (by omega) (by omega) dX13_load_33 (by decide) (fun c_33 => ?_) (fun c_33 => ?_)
          · exact absurd c_33 (by omega)
          · skip
            refine lv_aload_n hx hb dX13_load_36 rfl (lv_at hl 0 rfl) ?_
            refine mg_numbers S hK hP dX13_load_37 ?_
            refine lv_bipush (v := 40) hx hb dX13_load_40 (by decide) ?_
            refine lv_iload_n hx hb dX13_load_42 rfl (lv_at hl 1 rfl) ?_
            refine lv_imul hx hb dX13_load_43 ?_
            refine lv_iload_n hx hb dX13_load_44 rfl (lv_at hl 2 rfl) ?_
            refine lv_iadd hx hb dX13_load_45 ?_
            refine mk_ld8 S hK hP (((40 * v_) + k)) (by omega) (nn_add (nn_mul rfl rfl) rfl) dX13_load_46 ?_
            refine lv_i2l hx hb dX13_load_47 rfl ?_
            refine lv_lconst (v := (0 : Int32).toInt64) hx hb dX13_load_48 (by decide) ?_
            refine lv_ldc2 (v := ((99) : Int32).toInt64) hx hb hown (hts _ q1331) dX13_load_49 ?_
            refine c_isIn S (rm_ok (Nat.le_of_ble_eq_true rfl)) hl.1 (Nat.le_of_ble_eq_true rfl) dX13_load_52 ?_
            refine kb_ifeq (tgt := 84) S dX13_load_55 (by decide) (fun c_55 => ?_) (fun c_55 => ?_)
            · skip
              have hpl : p_load (mSv x) r (nI v_) = (p_ldl (fun u => x 8 (40 * v_ + u)) (min (x 7 v_).toNatClampNeg 6) 0 r) := by unfold p_load; rw [hcl_v_, hq_, hq2]
              have hres : (p_ldl (fun u => x 8 (40 * v_ + u)) (min (x 7 v_).toNatClampNeg 6) 0 r) = (k, r1) := by rw [← he, p_ldl, if_neg c_55]
              refine lv_iload_n hx hb dX13_load_84 rfl (lv_at hl 2 rfl) ?_
              exact kk_iretW S hr hlk hS (by rw [o_load, hz_]; show mW t (p_load (mSv x) r (nI v_)).2 x H; rw [hpl, hres]; exact hP) (by rw [o_load, hz_]; show nI k = nI (p_load (mSv x) r (nI v_)).1; rw [hpl, hres]) dX13_load_85
            · skip
              refine lv_aload_n hx hb dX13_load_58 rfl (lv_at hl 0 rfl) ?_
              refine mg_s S hK hP dX13_load_59 ?_
              refine lv_bipush (v := 10) hx hb dX13_load_62 (by decide) ?_
              refine lv_iload_n hx hb dX13_load_64 rfl (lv_at hl 2 rfl) ?_
              refine lv_iadd hx hb dX13_load_65 ?_
              refine lv_aload_n hx hb dX13_load_66 rfl (lv_at hl 0 rfl) ?_
              refine mg_numbers S hK hP dX13_load_67 ?_
              refine lv_bipush (v := 40) hx hb dX13_load_70 (by decide) ?_
              refine lv_iload_n hx hb dX13_load_72 rfl (lv_at hl 1 rfl) ?_
              refine lv_imul hx hb dX13_load_73 ?_
              refine lv_iload_n hx hb dX13_load_74 rfl (lv_at hl 2 rfl) ?_
              refine lv_iadd hx hb dX13_load_75 ?_
              refine mk_ld8 S hK hP (((40 * v_) + k)) (by omega) (nn_add (nn_mul rfl rfl) rfl) dX13_load_76 ?_
              refine mk_sts S hK hP hS ((10 + k)) (by omega) (nn_add rfl rfl) dX13_load_77 (fun H locs hP hS => ?_)
              refine lv_iinc (v := (nI (k + 1))) (lv' := [(2, .int ((nI (k + 1)))), (0, .ref (t.2.1 0)), (1, .int ((nI v_)))]) hx hb dX13_load_78 hl (k := 2) rfl (nn_1 rfl) (by decide) rfl (fun ls hl => ?_)
              refine lv_goto (tgt := 20) hx hb dX13_load_81 (by decide) ?_
              exact ih_20 ((k + 1)) _ _ _ ls (by omega) (by have h := he; rw [p_ldl, if_pos c_55] at h; exact h) hP hS (lv_sub hl [1, 2, 0] rfl)
    exact lp_20 (min (x 7 v_).toNatClampNeg 6) 0 _ _ _ ls (by omega) (rfl) hP hS (lv_sub hl [1, 2, 0] rfl)
  · skip
    obtain ⟨z_, hz_, hz7⟩ := wI_s (fun _ => p_w_lt) c_5
    refine lv_aload_n hx hb dX13_load_8 rfl (lv_at hl 0 rfl) ?_
    refine lv_aload_n hx hb dX13_load_9 rfl (lv_at hl 0 rfl) ?_
    refine lv_iload_n hx hb dX13_load_10 rfl (lv_at hl 1 rfl) ?_
    refine c_wants S hK hP (rm_ok (Nat.le_of_ble_eq_true rfl)) hl.1 (Nat.le_of_ble_eq_true rfl) dX13_load_11 ?_
    refine c_finds S hK hP hS (rm_ok (Nat.le_of_ble_eq_true rfl)) hl.1 (z_) (by rw [hz_]; exact fnd_ix z_ hz7) hz7 (Nat.le_of_ble_eq_true rfl) dX13_load_14 (fun H locs hP hS => ?_)
    exact kk_iretW S hr hlk hS (by simp only [o_load, hz_, oW, oF, fx]; exact hP) (by rw [o_load, hz_]; rfl) dX13_load_17
set_option maxHeartbeats 4000000 in
set_option maxRecDepth 100000 in
theorem k_judge (l : Launch) (t : MT) (r : Rw) (x : Nat → Rw) (v : Int32) (b : Nat) (hV : pV b r) (hs : mS x) : Met l yX13_judge (ws_ yX13_judge cX13_judge 3 (some .int)) (rmF 2) (va_Pc [.ref (t.2.1 0), .int v] (fun U => mK t U ∧ mW t r x U.heap)) (kW (some (.int ((o_judge (mSv x) r v).1))) (mW t ((o_judge (mSv x) r v).2.1) (fx x (o_judge (mSv x) r v).2.2)) (mA t)) 0 0 (mA t) := by
  refine kk_start (by decide) (Nat.le_of_ble_eq_true rfl) ?_
  intro p e s m below meth c S hr hlk hin hB ls hl
  obtain ⟨hK, hP⟩ := hB
  have hx := S.1
  have hb := S.2.1
  have hown : s.vm.findClass RX13 = some m.cls := S.2.2.2.1
  have hts := S.2.2.2.2
  have hS : va_S (mA t) s.heap s.heap [] := va_S.rf
  have hl : lv_has ls 3 [(0, .ref (t.2.1 0)), (1, .int (v))] := hl
  have hn := hV.n.1
  have hn8 := hV.n.2
  refine lv_aload_n hx hb dX13_judge_0 rfl (lv_at hl 0 rfl) ?_
  refine lv_iload_n hx hb dX13_judge_1 rfl (lv_at hl 1 rfl) ?_
  refine c_wants S hK hP (rm_ok (Nat.le_of_ble_eq_true rfl)) hl.1 (Nat.le_of_ble_eq_true rfl) dX13_judge_2 ?_
  refine lv_if_eq (tgt := 18) hx hb dX13_judge_5 (by decide) (fun c_5 => ?_) (fun c_5 => ?_)
  · skip
    have hz_ := (wI_0 (fun _ => p_w_lt)).mp c_5
    obtain ⟨hv4, q_, hq_⟩ := p_w_none hz_
    obtain ⟨v_, hv_, rfl⟩ := nat_of_lt (n := 4) rfl (by omega) hv4
    have hcl_v_ := nI_clamp (n := v_) (by omega)
    rw [hcl_v_] at hq_
    obtain ⟨hq2, hsn, hlen⟩ := mSv_s hs hv_ hq_
    refine lv_iconst (v := 0) hx hb dX13_judge_18 (by decide) ?_
    refine lv_istore_n (lv' := [(2, .int (0)), (0, .ref (t.2.1 0)), (1, .int ((nI v_)))]) hx hb dX13_judge_19 rfl hl (by decide) rfl (fun ls hl => ?_)
    have lp_20 : ∀ (j k : Nat) (H : Heap) (locs : List Loc) (ls : Array Slot), k + j = (x 7 v_).toNatClampNeg → (p_jgl (fun u => x 8 (40 * v_ + u)) r j k = (p_jgl (fun u => x 8 (40 * v_ + u)) r (x 7 v_).toNatClampNeg 0)) → mW t (r) (x) H → va_S (mA t) s.heap H locs → lv_has ls 3 [(0, .ref (t.2.1 0)), (1, .int ((nI v_))), (2, .int ((nI k)))] → W p l e (rmF 2) s m ([.ref (t.2.1 0), .int (nI v_)] : List Value).toArray below meth c H locs 0 0 (MQ below (kW (some (.int ((o_judge (mSv x) r (nI v_)).1))) (mW t ((o_judge (mSv x) r (nI v_)).2.1) (fx x (o_judge (mSv x) r (nI v_)).2.2)) (mA t)) ([.ref (t.2.1 0), .int (nI v_)] : List Value).toArray s 0 0 (mA t)) (F0 m 20 ls []) := by
      intro j
      induction j with
      | zero =>
        intro k  H locs ls hkj he hP hS hl
        refine lv_iload_n hx hb dX13_judge_20 rfl (lv_at hl 2 rfl) ?_
        refine lv_aload_n hx hb dX13_judge_21 rfl (lv_at hl 0 rfl) ?_
        refine mg_sizes S hK hP dX13_judge_22 ?_
        refine lv_iload_n hx hb dX13_judge_25 rfl (lv_at hl 1 rfl) ?_
        refine mk_ld7 S hK hP (v_) (by omega) rfl dX13_judge_26 ?_
        refine kb_ge_n (tgt := 64) (a := k) (b := ((x 7 v_).toNatClampNeg)) S rfl hsn (by omega) (by omega) dX13_judge_27 (by decide) (fun c_27 => ?_) (fun c_27 => ?_)
        · skip
          have hres : (p_jgl (fun u => x 8 (40 * v_ + u)) r (x 7 v_).toNatClampNeg 0) = k := by rw [← he]; rfl
          refine lv_iload_n hx hb dX13_judge_64 rfl (lv_at hl 2 rfl) ?_
          refine lv_aload_n hx hb dX13_judge_65 rfl (lv_at hl 0 rfl) ?_
          refine mg_sizes S hK hP dX13_judge_66 ?_
          refine lv_iload_n hx hb dX13_judge_69 rfl (lv_at hl 1 rfl) ?_
          refine mk_ld7 S hK hP (v_) (by omega) rfl dX13_judge_70 ?_
          refine kb_ge_n (tgt := 80) (a := k) (b := ((x 7 v_).toNatClampNeg)) S rfl hsn (by omega) (by omega) dX13_judge_71 (by decide) (fun c_71 => ?_) (fun c_71 => ?_)
          · skip
            refine lv_iconst (v := 0) hx hb dX13_judge_80 (by decide) ?_
            exact kk_iretW S hr hlk hS (by rw [o_judge, hz_]; exact hP) (by rw [o_judge, hz_]; show _ = p_judge (mSv x) r (nI v_); unfold p_judge; rw [hcl_v_, hq_, hq2]; simp only [hres]; rw [if_neg (Nat.not_lt.mpr c_71)]) dX13_judge_81
          · exact absurd c_71 (by omega)
        · exact absurd c_27 (by omega)
      | succ j ih =>
        intro k  H locs ls hkj he hP hS hl
        have ih_20 := ih
        refine lv_iload_n hx hb dX13_judge_20 rfl (lv_at hl 2 rfl) ?_
        refine lv_aload_n hx hb dX13_judge_21 rfl (lv_at hl 0 rfl) ?_
        refine mg_sizes S hK hP dX13_judge_22 ?_
        refine lv_iload_n hx hb dX13_judge_25 rfl (lv_at hl 1 rfl) ?_
        refine mk_ld7 S hK hP (v_) (by omega) rfl dX13_judge_26 ?_
        refine kb_ge_n (tgt := 64) (a := k) (b := ((x 7 v_).toNatClampNeg)) S rfl hsn (by omega) (by omega) dX13_judge_27 (by decide) (fun c_27 => ?_) (fun c_27 => ?_)
        · exact absurd c_27 (by omega)
        · skip
          refine lv_aload_n hx hb dX13_judge_30 rfl (lv_at hl 0 rfl) ?_
          refine lv_iload_n hx hb dX13_judge_31 rfl (lv_at hl 2 rfl) ?_
          refine c_isCask S hK hP (rm_ok (Nat.le_of_ble_eq_true rfl)) hl.1 (Nat.le_of_ble_eq_true rfl) dX13_judge_32 ?_
          refine kb_ifeq (tgt := 64) S dX13_judge_35 (by decide) (fun c_35 => ?_) (fun c_35 => ?_)
          · skip
            have hres : (p_jgl (fun u => x 8 (40 * v_ + u)) r (x 7 v_).toNatClampNeg 0) = k := by rw [← he, p_jgl, if_neg (fun z => c_35 ((isC hn hn8 (by omega)).mpr z.1))]
            refine lv_iload_n hx hb dX13_judge_64 rfl (lv_at hl 2 rfl) ?_
            refine lv_aload_n hx hb dX13_judge_65 rfl (lv_at hl 0 rfl) ?_
            refine mg_sizes S hK hP dX13_judge_66 ?_
            refine lv_iload_n hx hb dX13_judge_69 rfl (lv_at hl 1 rfl) ?_
            refine mk_ld7 S hK hP (v_) (by omega) rfl dX13_judge_70 ?_
            refine kb_ge_n (tgt := 80) (a := k) (b := ((x 7 v_).toNatClampNeg)) S rfl hsn (by omega) (by omega) dX13_judge_71 (by decide) (fun c_71 => ?_) (fun c_71 => ?_)
            · exact absurd c_71 (by omega)
            · skip
              refine lv_iconst (v := 1) hx hb dX13_judge_74 (by decide) ?_
              refine lv_iload_n hx hb dX13_judge_75 rfl (lv_at hl 2 rfl) ?_
              refine lv_iadd hx hb dX13_judge_76 ?_
              refine lv_goto (tgt := 81) hx hb dX13_judge_77 (by decide) ?_
              exact kk_iretW S hr hlk hS (by rw [o_judge, hz_]; exact hP) (by rw [o_judge, hz_]; show _ = p_judge (mSv x) r (nI v_); unfold p_judge; rw [hcl_v_, hq_, hq2]; simp only [hres]; rw [if_pos c_71]; exact nn_add rfl rfl) dX13_judge_81
          · skip
            refine lv_aload_n hx hb dX13_judge_38 rfl (lv_at hl 0 rfl) ?_
            refine mg_numbers S hK hP dX13_judge_39 ?_
            refine lv_bipush (v := 40) hx hb dX13_judge_42 (by decide) ?_
            refine lv_iload_n hx hb dX13_judge_44 rfl (lv_at hl 1 rfl) ?_
            refine lv_imul hx hb dX13_judge_45 ?_
            refine lv_iload_n hx hb dX13_judge_46 rfl (lv_at hl 2 rfl) ?_
            refine lv_iadd hx hb dX13_judge_47 ?_
            refine mk_ld8 S hK hP (((40 * v_) + k)) (by omega) (nn_add (nn_mul rfl rfl) rfl) dX13_judge_48 ?_
            refine lv_aload_n hx hb dX13_judge_49 rfl (lv_at hl 0 rfl) ?_
            refine lv_iload_n hx hb dX13_judge_50 rfl (lv_at hl 2 rfl) ?_
            refine lv_iconst (v := 2) hx hb dX13_judge_51 (by decide) ?_
            refine c_its S hK hP (rm_ok (Nat.le_of_ble_eq_true rfl)) hl.1 (k) (2) (by have := (isC hn hn8 (by omega)).mp c_35; omega) (by omega) rfl rfl (Nat.le_of_ble_eq_true rfl) dX13_judge_52 ?_
            refine lv_icmp_ne (tgt := 64) hx hb dX13_judge_55 (by decide) (fun c_55 => ?_) (fun c_55 => ?_)
            · skip
              have hres : (p_jgl (fun u => x 8 (40 * v_ + u)) r (x 7 v_).toNatClampNeg 0) = k := by rw [← he, p_jgl, if_neg (fun z => c_55 z.2)]
              refine lv_iload_n hx hb dX13_judge_64 rfl (lv_at hl 2 rfl) ?_
              refine lv_aload_n hx hb dX13_judge_65 rfl (lv_at hl 0 rfl) ?_
              refine mg_sizes S hK hP dX13_judge_66 ?_
              refine lv_iload_n hx hb dX13_judge_69 rfl (lv_at hl 1 rfl) ?_
              refine mk_ld7 S hK hP (v_) (by omega) rfl dX13_judge_70 ?_
              refine kb_ge_n (tgt := 80) (a := k) (b := ((x 7 v_).toNatClampNeg)) S rfl hsn (by omega) (by omega) dX13_judge_71 (by decide) (fun c_71 => ?_) (fun c_71 => ?_)
              · exact absurd c_71 (by omega)
              · skip
                refine lv_iconst (v := 1) hx hb dX13_judge_74 (by decide) ?_
                refine lv_iload_n hx hb dX13_judge_75 rfl (lv_at hl 2 rfl) ?_
                refine lv_iadd hx hb dX13_judge_76 ?_
                refine lv_goto (tgt := 81) hx hb dX13_judge_77 (by decide) ?_
                exact kk_iretW S hr hlk hS (by rw [o_judge, hz_]; exact hP) (by rw [o_judge, hz_]; show _ = p_judge (mSv x) r (nI v_); unfold p_judge; rw [hcl_v_, hq_, hq2]; simp only [hres]; rw [if_pos c_71]; exact nn_add rfl rfl) dX13_judge_81
            · skip
              refine lv_iinc (v := (nI (k + 1))) (lv' := [(2, .int ((nI (k + 1)))), (0, .ref (t.2.1 0)), (1, .int ((nI v_)))]) hx hb dX13_judge_58 hl (k := 2) rfl (nn_1 rfl) (by decide) rfl (fun ls hl => ?_)
              refine lv_goto (tgt := 20) hx hb dX13_judge_61 (by decide) ?_
              exact ih_20 ((k + 1)) _ _ ls (by omega) (by have h := he; rw [p_jgl, if_pos ⟨(isC hn hn8 (by omega)).mp c_35, c_55⟩] at h; exact h) hP hS (lv_sub hl [1, 2, 0] rfl)
    exact lp_20 ((x 7 v_).toNatClampNeg) 0 _ _ ls (by omega) (rfl) hP hS (lv_sub hl [1, 2, 0] rfl)
  · skip
    obtain ⟨z_, hz_, hz7⟩ := wI_s (fun _ => p_w_lt) c_5
    refine lv_aload_n hx hb dX13_judge_8 rfl (lv_at hl 0 rfl) ?_
    refine lv_aload_n hx hb dX13_judge_9 rfl (lv_at hl 0 rfl) ?_
    refine lv_iload_n hx hb dX13_judge_10 rfl (lv_at hl 1 rfl) ?_
    refine c_wants S hK hP (rm_ok (Nat.le_of_ble_eq_true rfl)) hl.1 (Nat.le_of_ble_eq_true rfl) dX13_judge_11 ?_
    refine c_finds S hK hP hS (rm_ok (Nat.le_of_ble_eq_true rfl)) hl.1 (z_) (by rw [hz_]; exact fnd_ix z_ hz7) hz7 (Nat.le_of_ble_eq_true rfl) dX13_judge_14 (fun H locs hP hS => ?_)
    exact kk_iretW S hr hlk hS (by simp only [o_judge, hz_, oW, oF, fx]; exact hP) (by rw [o_judge, hz_]; rfl) dX13_judge_17

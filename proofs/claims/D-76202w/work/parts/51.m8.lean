set_option maxHeartbeats 4000000 in
set_option maxRecDepth 100000 in
theorem k_blend (l : Launch) (t : MT) (r : Rw) (x : Nat → Rw) (a : Int32) (b : Nat) (hV : pV b r) : Met l yX13_blend (ws_ yX13_blend cX13_blend 2 (some .int)) (rmF 4) (va_Pc [.ref (t.2.1 0), .int a] (fun U => mK t U ∧ mW t r x U.heap)) (kW (some (.int ((o_blend r a).1))) (mW t ((o_blend r a).2.1) (fx x (o_blend r a).2.2)) (mA t)) 0 0 (mA t) := by
  refine kk_start (by decide) (Nat.le_of_ble_eq_true rfl) ?_
  intro p e s m below meth c S hr hlk hin hB ls hl
  obtain ⟨hK, hP⟩ := hB
  have hx := S.1
  have hb := S.2.1
  have hown : s.vm.findClass RX13 = some m.cls := S.2.2.2.1
  have hts := S.2.2.2.2
  have hS : va_S (mA t) s.heap s.heap [] := va_S.rf
  have hl : lv_has ls 2 [(0, .ref (t.2.1 0)), (1, .int (a))] := hl
  have hn := hV.n.1
  have hn8 := hV.n.2
  have hp2 := p2_le hn8
  have hp1 := p2_pos (pN r)
  refine lv_iload_n hx hb dX13_blend_0 rfl (lv_at hl 1 rfl) ?_
  refine lv_i2l hx hb dX13_blend_1 rfl ?_
  refine lv_lconst (v := (0 : Int32).toInt64) hx hb dX13_blend_2 (by decide) ?_
  refine lv_iconst (v := 1) hx hb dX13_blend_3 (by decide) ?_
  refine lv_aload_n hx hb dX13_blend_4 rfl (lv_at hl 0 rfl) ?_
  refine mg_s S hK hP dX13_blend_5 ?_
  refine lv_iconst (v := 0) hx hb dX13_blend_8 (by decide) ?_
  refine mk_lds S hK hP (0) (by omega) rfl dX13_blend_9 ?_
  refine lv_ishl hx hb dX13_blend_10 ?_
  refine lv_iconst (v := 1) hx hb dX13_blend_11 (by decide) ?_
  refine lv_isub hx hb dX13_blend_12 ?_
  refine lv_i2l hx hb dX13_blend_13 rfl ?_
  refine c_isIn S (rm_ok (Nat.le_of_ble_eq_true rfl)) hl.1 (Nat.le_of_ble_eq_true rfl) dX13_blend_14 ?_
  refine kb_ifeq (tgt := 28) S dX13_blend_17 (by decide) (fun c_17 => ?_) (fun c_17 => ?_)
  · skip
    have hall : (1 : Int32) <<< (r 0 &&& 31) - 1 = nI (2 ^ pN r - 1) := by rw [hn, nn_shl1 _ (by omega)]; exact nn_sub rfl rfl hp1
    rw [hall] at c_17
    refine lv_aload_n hx hb dX13_blend_28 rfl (lv_at hl 0 rfl) ?_
    refine lv_ldc (v := (-1000001)) hx hb hown (hts _ q1305) dX13_blend_29 ?_
    refine c_finds S hK hP hS (rm_ok (Nat.le_of_ble_eq_true rfl)) hl.1 (0) (by decide) (by decide) (Nat.le_of_ble_eq_true rfl) dX13_blend_31 (fun H locs hP hS => ?_)
    exact kk_iretW S hr hlk hS (by simp only [o_blend, c_17, reduceIte, and_self, oF, oK, fx]; exact hP) (by simp only [o_blend, c_17, reduceIte, and_self, oF, oK, fnd] <;> first | rfl | decide) dX13_blend_34
  · skip
    have hall : (1 : Int32) <<< (r 0 &&& 31) - 1 = nI (2 ^ pN r - 1) := by rw [hn, nn_shl1 _ (by omega)]; exact nn_sub rfl rfl hp1
    rw [hall] at c_17
    obtain ⟨a_, ha_, rfl⟩ := nat_of_le (n := 2 ^ pN r - 1) (rfl) (by omega) c_17
    have hcl_a_ := nI_clamp (n := a_) (by omega)
    refine lv_aload_n hx hb dX13_blend_20 rfl (lv_at hl 0 rfl) ?_
    refine lv_iload_n hx hb dX13_blend_21 rfl (lv_at hl 1 rfl) ?_
    refine c_blendOf S hK hP (rm_ok (Nat.le_of_ble_eq_true rfl)) hl.1 (a_) (b) hV (by omega) rfl (Nat.le_of_ble_eq_true rfl) dX13_blend_22 ?_
    refine lv_goto (tgt := 34) hx hb dX13_blend_25 (by decide) ?_
    exact kk_iretW S hr hlk hS (by simp only [o_blend, c_17, hcl_a_, reduceIte, and_self, oF, oK, fx]; exact hP) (by simp only [o_blend, c_17, hcl_a_, reduceIte, and_self, oF, oK, fnd] <;> first | rfl | decide) dX13_blend_34
set_option maxHeartbeats 4000000 in
set_option maxRecDepth 100000 in
theorem k_order (l : Launch) (t : MT) (r : Rw) (x : Nat → Rw) (v : Int32) (b : Nat) (hV : pV b r) : Met l yX13_order (ws_ yX13_order cX13_order 4 (some .int)) (rmF 4) (va_Pc [.ref (t.2.1 0), .int v] (fun U => mK t U ∧ mW t r x U.heap)) (kW (some (.int ((o_order r v).1))) (mW t ((o_order r v).2.1) (fx x (o_order r v).2.2)) (mA t)) 0 0 (mA t) := by
  refine kk_start (by decide) (Nat.le_of_ble_eq_true rfl) ?_
  intro p e s m below meth c S hr hlk hin hB ls hl
  obtain ⟨hK, hP⟩ := hB
  have hx := S.1
  have hb := S.2.1
  have hown : s.vm.findClass RX13 = some m.cls := S.2.2.2.1
  have hts := S.2.2.2.2
  have hS : va_S (mA t) s.heap s.heap [] := va_S.rf
  have hl : lv_has ls 4 [(0, .ref (t.2.1 0)), (1, .int (v))] := hl
  have hn := hV.n.1
  have hn8 := hV.n.2
  have hp2 := p2_le hn8
  have hp1 := p2_pos (pN r)
  refine lv_iload_n hx hb dX13_order_0 rfl (lv_at hl 1 rfl) ?_
  refine lv_i2l hx hb dX13_order_1 rfl ?_
  refine lv_lconst (v := (0 : Int32).toInt64) hx hb dX13_order_2 (by decide) ?_
  refine lv_ldc2 (v := ((9999) : Int32).toInt64) hx hb hown (hts _ q1523) dX13_order_3 ?_
  refine c_isIn S (rm_ok (Nat.le_of_ble_eq_true rfl)) hl.1 (Nat.le_of_ble_eq_true rfl) dX13_order_6 ?_
  refine kb_ifne (tgt := 19) S dX13_order_9 (by decide) (fun c_9 => ?_) (fun c_9 => ?_)
  · skip
    refine lv_iconst (v := (-1)) hx hb dX13_order_19 (by decide) ?_
    refine lv_istore_n (lv' := [(2, .int ((-1))), (0, .ref (t.2.1 0)), (1, .int (v))]) hx hb dX13_order_20 rfl hl (by decide) rfl (fun ls hl => ?_)
    refine lv_iconst (v := 0) hx hb dX13_order_21 (by decide) ?_
    refine lv_istore_n (lv' := [(3, .int (0)), (2, .int ((-1))), (0, .ref (t.2.1 0)), (1, .int (v))]) hx hb dX13_order_22 rfl hl (by decide) rfl (fun ls hl => ?_)
    have lp_23 : ∀ (j a : Nat) (bb : Option Nat) (H : Heap) (locs : List Loc) (ls : Array Slot), a + j = 2 ^ pN r → (lp (p_few (fun a => decide (p_blend r a = v))) j a bb = p_order r v) → (∀ i, bb = some i → i < 256) → mW t (r) (x) H → va_S (mA t) s.heap H locs → lv_has ls 4 [(0, .ref (t.2.1 0)), (1, .int (v)), (2, .int ((oi bb))), (3, .int ((nI a)))] → W p l e (rmF 4) s m ([.ref (t.2.1 0), .int v] : List Value).toArray below meth c H locs 0 0 (MQ below (kW (some (.int ((o_order r v).1))) (mW t ((o_order r v).2.1) (fx x (o_order r v).2.2)) (mA t)) ([.ref (t.2.1 0), .int v] : List Value).toArray s 0 0 (mA t)) (F0 m 23 ls []) := by
      intro j
      induction j with
      | zero =>
        intro a bb H locs ls hkj he hb8 hP hS hl
        refine lv_iload_n hx hb dX13_order_23 rfl (lv_at hl 3 rfl) ?_
        refine lv_iconst (v := 1) hx hb dX13_order_24 (by decide) ?_
        refine lv_aload_n hx hb dX13_order_25 rfl (lv_at hl 0 rfl) ?_
        refine mg_s S hK hP dX13_order_26 ?_
        refine lv_iconst (v := 0) hx hb dX13_order_29 (by decide) ?_
        refine mk_lds S hK hP (0) (by omega) rfl dX13_order_30 ?_
        refine lv_ishl hx hb dX13_order_31 ?_
        refine kb_ge_n (tgt := 71) (a := a) (b := (2 ^ pN r)) S rfl (by rw [hn]; exact nn_shl1 _ (by omega)) (by omega) (by omega) dX13_order_32 (by decide) (fun c_32 => ?_) (fun c_32 => ?_)
        · skip
          have he0 : bb = p_order r v := he
          subst he0
          refine lv_aload_n hx hb dX13_order_71 rfl (lv_at hl 0 rfl) ?_
          refine lv_iload_n hx hb dX13_order_72 rfl (lv_at hl 2 rfl) ?_
          refine c_orNoneO S hK hP hS (rm_ok (Nat.le_of_ble_eq_true rfl)) hl.1 (fun i hi => Nat.lt_trans (hb8 i hi) (by decide)) (Nat.le_of_ble_eq_true rfl) dX13_order_73 (fun H locs hP hS => ?_)
          exact kk_iretW S hr hlk hS (by simp only [o_order, c_9, reduceIte, and_self, oU_r]; exact hP) (by simp only [o_order, c_9, reduceIte, and_self]) dX13_order_76
        · exact absurd c_32 (by omega)
      | succ j ih =>
        intro a bb H locs ls hkj he hb8 hP hS hl
        have ih_23 := ih
        refine lv_iload_n hx hb dX13_order_23 rfl (lv_at hl 3 rfl) ?_
        refine lv_iconst (v := 1) hx hb dX13_order_24 (by decide) ?_
        refine lv_aload_n hx hb dX13_order_25 rfl (lv_at hl 0 rfl) ?_
        refine mg_s S hK hP dX13_order_26 ?_
        refine lv_iconst (v := 0) hx hb dX13_order_29 (by decide) ?_
        refine mk_lds S hK hP (0) (by omega) rfl dX13_order_30 ?_
        refine lv_ishl hx hb dX13_order_31 ?_
        refine kb_ge_n (tgt := 71) (a := a) (b := (2 ^ pN r)) S rfl (by rw [hn]; exact nn_shl1 _ (by omega)) (by omega) (by omega) dX13_order_32 (by decide) (fun c_32 => ?_) (fun c_32 => ?_)
        · exact absurd c_32 (by omega)
        · skip
          refine lv_iload_n hx hb dX13_order_35 rfl (lv_at hl 2 rfl) ?_
          refine kb_iflt_o (tgt := 50) S dX13_order_36 (by decide) (fun c_36 => ?_) (fun c_36 => ?_) (fun i hi => Nat.lt_trans (hb8 i hi) (by decide))
          · skip
            subst c_36
            refine lv_aload_n hx hb dX13_order_50 rfl (lv_at hl 0 rfl) ?_
            refine lv_iload_n hx hb dX13_order_51 rfl (lv_at hl 3 rfl) ?_
            refine c_blendOf S hK hP (rm_ok (Nat.le_of_ble_eq_true rfl)) hl.1 (a) (b) hV (by omega) rfl (Nat.le_of_ble_eq_true rfl) dX13_order_52 ?_
            refine lv_iload_n hx hb dX13_order_55 rfl (lv_at hl 1 rfl) ?_
            refine lv_icmp_ne (tgt := 63) hx hb dX13_order_56 (by decide) (fun c_56 => ?_) (fun c_56 => ?_)
            · skip
              refine lv_iload_n hx hb dX13_order_63 rfl (lv_at hl 2 rfl) ?_
              refine lv_istore_n (lv' := [(2, .int ((oi none))), (0, .ref (t.2.1 0)), (1, .int (v)), (3, .int ((nI a)))]) hx hb dX13_order_64 rfl hl (by decide) rfl (fun ls hl => ?_)
              refine lv_iinc (v := (nI (a + 1))) (lv' := [(3, .int ((nI (a + 1)))), (2, .int ((oi none))), (0, .ref (t.2.1 0)), (1, .int (v))]) hx hb dX13_order_65 hl (k := 3) rfl (nn_1 rfl) (by decide) rfl (fun ls hl => ?_)
              refine lv_goto (tgt := 23) hx hb dX13_order_68 (by decide) ?_
              exact ih_23 ((a + 1)) none _ _ ls (by omega) (by have h := he; rw [lp, p_few] at h; rw [if_pos (show p_fewer a none = true from rfl)] at h; rw [if_neg (show ¬ (fun a => decide (p_blend r a = v)) a = true from fun z => c_56 (of_decide_eq_true z))] at h; exact h) (hb8) hP hS (lv_sub hl [2, 3, 1, 0] rfl)
            · skip
              refine lv_iload_n hx hb dX13_order_59 rfl (lv_at hl 3 rfl) ?_
              refine lv_goto (tgt := 64) hx hb dX13_order_60 (by decide) ?_
              refine lv_istore_n (lv' := [(2, .int ((nI a))), (0, .ref (t.2.1 0)), (1, .int (v)), (3, .int ((nI a)))]) hx hb dX13_order_64 rfl hl (by decide) rfl (fun ls hl => ?_)
              refine lv_iinc (v := (nI (a + 1))) (lv' := [(3, .int ((nI (a + 1)))), (2, .int ((nI a))), (0, .ref (t.2.1 0)), (1, .int (v))]) hx hb dX13_order_65 hl (k := 3) rfl (nn_1 rfl) (by decide) rfl (fun ls hl => ?_)
              refine lv_goto (tgt := 23) hx hb dX13_order_68 (by decide) ?_
              exact ih_23 ((a + 1)) (some (a)) _ _ ls (by omega) (by have h := he; rw [lp, p_few] at h; rw [if_pos (show p_fewer a none = true from rfl)] at h; rw [if_pos (show (fun a => decide (p_blend r a = v)) a = true from decide_eq_true c_56)] at h; exact h) (fun i hi => by cases hi; omega) hP hS (lv_sub hl [2, 3, 1, 0] rfl)
          · skip
            obtain ⟨bb_36, rfl⟩ := c_36
            have hbb_36 := hb8 _ rfl
            refine lv_iload_n hx hb dX13_order_39 rfl (lv_at hl 3 rfl) ?_
            refine c_many S (rm_ok (Nat.le_of_ble_eq_true rfl)) hl.1 (a) (by omega) rfl (Nat.le_of_ble_eq_true rfl) dX13_order_40 ?_
            refine lv_iload_n hx hb dX13_order_43 rfl (lv_at hl 2 rfl) ?_
            refine c_many S (rm_ok (Nat.le_of_ble_eq_true rfl)) hl.1 (bb_36) (by omega) (oi_some _) (Nat.le_of_ble_eq_true rfl) dX13_order_44 ?_
            refine kb_ge_n (tgt := 63) (a := (p_many a)) (b := (p_many bb_36)) S rfl rfl (Nat.lt_of_le_of_lt (p_many_le _) (by omega)) (Nat.lt_of_le_of_lt (p_many_le _) (by omega)) dX13_order_47 (by decide) (fun c_47 => ?_) (fun c_47 => ?_)
            · skip
              refine lv_iload_n hx hb dX13_order_63 rfl (lv_at hl 2 rfl) ?_
              refine kb_nat (y := nI (bb_36)) (oi_some _) ?_
              refine lv_istore_n (lv' := [(2, .int ((nI bb_36))), (0, .ref (t.2.1 0)), (1, .int (v)), (3, .int ((nI a)))]) hx hb dX13_order_64 rfl hl (by decide) rfl (fun ls hl => ?_)
              refine lv_iinc (v := (nI (a + 1))) (lv' := [(3, .int ((nI (a + 1)))), (2, .int ((nI bb_36))), (0, .ref (t.2.1 0)), (1, .int (v))]) hx hb dX13_order_65 hl (k := 3) rfl (nn_1 rfl) (by decide) rfl (fun ls hl => ?_)
              refine lv_goto (tgt := 23) hx hb dX13_order_68 (by decide) ?_
              exact ih_23 ((a + 1)) (some (bb_36)) _ _ ls (by omega) (by have h := he; rw [lp, p_few] at h; rw [if_neg (show ¬ p_fewer a (some bb_36) = true from fun z => absurd (of_decide_eq_true z) (Nat.not_lt.mpr c_47))] at h; exact h) (hb8) hP hS (lv_sub hl [2, 3, 1, 0] rfl)
            · skip
              refine lv_aload_n hx hb dX13_order_50 rfl (lv_at hl 0 rfl) ?_
              refine lv_iload_n hx hb dX13_order_51 rfl (lv_at hl 3 rfl) ?_
              refine c_blendOf S hK hP (rm_ok (Nat.le_of_ble_eq_true rfl)) hl.1 (a) (b) hV (by omega) rfl (Nat.le_of_ble_eq_true rfl) dX13_order_52 ?_
              refine lv_iload_n hx hb dX13_order_55 rfl (lv_at hl 1 rfl) ?_
              refine lv_icmp_ne (tgt := 63) hx hb dX13_order_56 (by decide) (fun c_56 => ?_) (fun c_56 => ?_)
              · skip
                refine lv_iload_n hx hb dX13_order_63 rfl (lv_at hl 2 rfl) ?_
                refine kb_nat (y := nI (bb_36)) (oi_some _) ?_
                refine lv_istore_n (lv' := [(2, .int ((nI bb_36))), (0, .ref (t.2.1 0)), (1, .int (v)), (3, .int ((nI a)))]) hx hb dX13_order_64 rfl hl (by decide) rfl (fun ls hl => ?_)
                refine lv_iinc (v := (nI (a + 1))) (lv' := [(3, .int ((nI (a + 1)))), (2, .int ((nI bb_36))), (0, .ref (t.2.1 0)), (1, .int (v))]) hx hb dX13_order_65 hl (k := 3) rfl (nn_1 rfl) (by decide) rfl (fun ls hl => ?_)
                refine lv_goto (tgt := 23) hx hb dX13_order_68 (by decide) ?_
                exact ih_23 ((a + 1)) (some (bb_36)) _ _ ls (by omega) (by have h := he; rw [lp, p_few] at h; rw [if_pos (show p_fewer a (some bb_36) = true from decide_eq_true c_47)] at h; rw [if_neg (show ¬ (fun a => decide (p_blend r a = v)) a = true from fun z => c_56 (of_decide_eq_true z))] at h; exact h) (hb8) hP hS (lv_sub hl [2, 3, 1, 0] rfl)
              · skip
                refine lv_iload_n hx hb dX13_order_59 rfl (lv_at hl 3 rfl) ?_
                refine lv_goto (tgt := 64) hx hb dX13_order_60 (by decide) ?_
                refine lv_istore_n (lv' := [(2, .int ((nI a))), (0, .ref (t.2.1 0)), (1, .int (v)), (3, .int ((nI a)))]) hx hb dX13_order_64 rfl hl (by decide) rfl (fun ls hl => ?_)
                refine lv_iinc (v := (nI (a + 1))) (lv' := [(3, .int ((nI (a + 1)))), (2, .int ((nI a))), (0, .ref (t.2.1 0)), (1, .int (v))]) hx hb dX13_order_65 hl (k := 3) rfl (nn_1 rfl) (by decide) rfl (fun ls hl => ?_)
                refine lv_goto (tgt := 23) hx hb dX13_order_68 (by decide) ?_
                exact ih_23 ((a + 1)) (some (a)) _ _ ls (by omega) (by have h := he; rw [lp, p_few] at h; rw [if_pos (show p_fewer a (some bb_36) = true from decide_eq_true c_47)] at h; rw [if_pos (show (fun a => decide (p_blend r a = v)) a = true from decide_eq_true c_56)] at h; exact h) (fun i hi => by cases hi; omega) hP hS (lv_sub hl [2, 3, 1, 0] rfl)
    exact lp_23 (2 ^ pN r) 0 none _ _ ls (by omega) (rfl) (fun _ h => by cases h) hP hS (lv_sub hl [2, 3, 1, 0] rfl)
  · skip
    refine lv_aload_n hx hb dX13_order_12 rfl (lv_at hl 0 rfl) ?_
    refine lv_ldc (v := (-1000001)) hx hb hown (hts _ q1305) dX13_order_13 ?_
    refine c_finds S hK hP hS (rm_ok (Nat.le_of_ble_eq_true rfl)) hl.1 (0) (by decide) (by decide) (Nat.le_of_ble_eq_true rfl) dX13_order_15 (fun H locs hP hS => ?_)
    exact kk_iretW S hr hlk hS (by simp only [o_order, c_9, reduceIte, and_self, oF, oK, fx]; exact hP) (by simp only [o_order, c_9, reduceIte, and_self, oF, oK, fnd] <;> first | rfl | decide) dX13_order_18
set_option maxHeartbeats 4000000 in
set_option maxRecDepth 100000 in
theorem k_blends (l : Launch) (t : MT) (r : Rw) (x : Nat → Rw) (v : Int32) (w : Int32) (b : Nat) (hV : pV b r) : Met l yX13_blends (ws_ yX13_blends cX13_blends 5 (some .int)) (rmF 4) (va_Pc [.ref (t.2.1 0), .int v, .int w] (fun U => mK t U ∧ mW t r x U.heap)) (kW (some (.int ((o_blends r v w).1))) (mW t ((o_blends r v w).2.1) (fx x (o_blends r v w).2.2)) (mA t)) 0 0 (mA t) := by
  refine kk_start (by decide) (Nat.le_of_ble_eq_true rfl) ?_
  intro p e s m below meth c S hr hlk hin hB ls hl
  obtain ⟨hK, hP⟩ := hB
  have hx := S.1
  have hb := S.2.1
  have hown : s.vm.findClass RX13 = some m.cls := S.2.2.2.1
  have hts := S.2.2.2.2
  have hS : va_S (mA t) s.heap s.heap [] := va_S.rf
  have hl : lv_has ls 5 [(0, .ref (t.2.1 0)), (1, .int (v)), (2, .int (w))] := hl
  have hn := hV.n.1
  have hn8 := hV.n.2
  have hp2 := p2_le hn8
  have hp1 := p2_pos (pN r)
  refine lv_iload_n hx hb dX13_blends_0 rfl (lv_at hl 1 rfl) ?_
  refine lv_i2l hx hb dX13_blends_1 rfl ?_
  refine lv_lconst (v := (0 : Int32).toInt64) hx hb dX13_blends_2 (by decide) ?_
  refine lv_ldc2 (v := ((9999) : Int32).toInt64) hx hb hown (hts _ q1523) dX13_blends_3 ?_
  refine c_isIn S (rm_ok (Nat.le_of_ble_eq_true rfl)) hl.1 (Nat.le_of_ble_eq_true rfl) dX13_blends_6 ?_
  refine kb_ifeq (tgt := 24) S dX13_blends_9 (by decide) (fun c_9 => ?_) (fun c_9 => ?_)
  · skip
    refine lv_aload_n hx hb dX13_blends_24 rfl (lv_at hl 0 rfl) ?_
    refine lv_ldc (v := (-1000001)) hx hb hown (hts _ q1305) dX13_blends_25 ?_
    refine c_finds S hK hP hS (rm_ok (Nat.le_of_ble_eq_true rfl)) hl.1 (0) (by decide) (by decide) (Nat.le_of_ble_eq_true rfl) dX13_blends_27 (fun H locs hP hS => ?_)
    exact kk_iretW S hr hlk hS (by simp only [o_blends, c_9, reduceIte, and_self, oF, oK, fx]; exact hP) (by simp only [o_blends, c_9, reduceIte, and_self, oF, oK, fnd] <;> first | rfl | decide) dX13_blends_30
  · skip
    refine lv_iload_n hx hb dX13_blends_12 rfl (lv_at hl 2 rfl) ?_
    refine lv_i2l hx hb dX13_blends_13 rfl ?_
    refine lv_lconst (v := (0 : Int32).toInt64) hx hb dX13_blends_14 (by decide) ?_
    refine lv_ldc2 (v := ((9999) : Int32).toInt64) hx hb hown (hts _ q1523) dX13_blends_15 ?_
    refine c_isIn S (rm_ok (Nat.le_of_ble_eq_true rfl)) hl.1 (Nat.le_of_ble_eq_true rfl) dX13_blends_18 ?_
    refine kb_ifne (tgt := 31) S dX13_blends_21 (by decide) (fun c_21 => ?_) (fun c_21 => ?_)
    · skip
      refine lv_iconst (v := 0) hx hb dX13_blends_31 (by decide) ?_
      refine lv_istore_n (lv' := [(3, .int (0)), (0, .ref (t.2.1 0)), (1, .int (v)), (2, .int (w))]) hx hb dX13_blends_32 rfl hl (by decide) rfl (fun ls hl => ?_)
      refine lv_iconst (v := 0) hx hb dX13_blends_33 (by decide) ?_
      refine lv_istore (lv' := [(4, .int (0)), (3, .int (0)), (0, .ref (t.2.1 0)), (1, .int (v)), (2, .int (w))]) hx hb dX13_blends_34 hl (by decide) rfl (fun ls hl => ?_)
      have lp_36 : ∀ (j a : Nat) (q : Int32) (H : Heap) (locs : List Loc) (ls : Array Slot), a + j = 2 ^ pN r → (lp (fun a n => n + (if v ≤ p_blend r a ∧ p_blend r a ≤ w then 1 else 0)) j a q = p_blends r v w) → mW t (r) (x) H → va_S (mA t) s.heap H locs → lv_has ls 5 [(0, .ref (t.2.1 0)), (1, .int (v)), (2, .int (w)), (3, .int (q)), (4, .int ((nI a)))] → W p l e (rmF 4) s m ([.ref (t.2.1 0), .int v, .int w] : List Value).toArray below meth c H locs 0 0 (MQ below (kW (some (.int ((o_blends r v w).1))) (mW t ((o_blends r v w).2.1) (fx x (o_blends r v w).2.2)) (mA t)) ([.ref (t.2.1 0), .int v, .int w] : List Value).toArray s 0 0 (mA t)) (F0 m 36 ls []) := by
        intro j
        induction j with
        | zero =>
          intro a q H locs ls hkj he hP hS hl
          refine lv_iload hx hb dX13_blends_36 (lv_at hl 4 rfl) ?_
          refine lv_iconst (v := 1) hx hb dX13_blends_38 (by decide) ?_
          refine lv_aload_n hx hb dX13_blends_39 rfl (lv_at hl 0 rfl) ?_
          refine mg_s S hK hP dX13_blends_40 ?_
          refine lv_iconst (v := 0) hx hb dX13_blends_43 (by decide) ?_
          refine mk_lds S hK hP (0) (by omega) rfl dX13_blends_44 ?_
          refine lv_ishl hx hb dX13_blends_45 ?_
          refine kb_ge_n (tgt := 80) (a := a) (b := (2 ^ pN r)) S rfl (by rw [hn]; exact nn_shl1 _ (by omega)) (by omega) (by omega) dX13_blends_46 (by decide) (fun c_46 => ?_) (fun c_46 => ?_)
          · skip
            refine lv_iload_n hx hb dX13_blends_80 rfl (lv_at hl 3 rfl) ?_
            exact kk_iretW S hr hlk hS (by simp only [o_blends, c_9, c_21, c_46, Nat.not_lt.mpr c_46, reduceIte, and_self, oF, oK, fx]; exact hP) (by simp only [o_blends, c_9, c_21, reduceIte, and_self, oK]; rw [← he]; rfl) dX13_blends_81
          · exact absurd c_46 (by omega)
        | succ j ih =>
          intro a q H locs ls hkj he hP hS hl
          have ih_36 := ih
          refine lv_iload hx hb dX13_blends_36 (lv_at hl 4 rfl) ?_
          refine lv_iconst (v := 1) hx hb dX13_blends_38 (by decide) ?_
          refine lv_aload_n hx hb dX13_blends_39 rfl (lv_at hl 0 rfl) ?_
          refine mg_s S hK hP dX13_blends_40 ?_
          refine lv_iconst (v := 0) hx hb dX13_blends_43 (by decide) ?_
          refine mk_lds S hK hP (0) (by omega) rfl dX13_blends_44 ?_
          refine lv_ishl hx hb dX13_blends_45 ?_
          refine kb_ge_n (tgt := 80) (a := a) (b := (2 ^ pN r)) S rfl (by rw [hn]; exact nn_shl1 _ (by omega)) (by omega) (by omega) dX13_blends_46 (by decide) (fun c_46 => ?_) (fun c_46 => ?_)
          · exact absurd c_46 (by omega)
          · skip
            refine lv_iload_n hx hb dX13_blends_49 rfl (lv_at hl 3 rfl) ?_
            refine lv_aload_n hx hb dX13_blends_50 rfl (lv_at hl 0 rfl) ?_
            refine lv_iload hx hb dX13_blends_51 (lv_at hl 4 rfl) ?_
            refine c_blendOf S hK hP (rm_ok (Nat.le_of_ble_eq_true rfl)) hl.1 (a) (b) hV (by omega) rfl (Nat.le_of_ble_eq_true rfl) dX13_blends_53 ?_
            refine lv_i2l hx hb dX13_blends_56 rfl ?_
            refine lv_iload_n hx hb dX13_blends_57 rfl (lv_at hl 1 rfl) ?_
            refine lv_i2l hx hb dX13_blends_58 rfl ?_
            refine lv_iload_n hx hb dX13_blends_59 rfl (lv_at hl 2 rfl) ?_
            refine lv_i2l hx hb dX13_blends_60 rfl ?_
            refine c_isIn S (rm_ok (Nat.le_of_ble_eq_true rfl)) hl.1 (Nat.le_of_ble_eq_true rfl) dX13_blends_61 ?_
            refine kb_ifeq (tgt := 71) S dX13_blends_64 (by decide) (fun c_64 => ?_) (fun c_64 => ?_)
            · skip
              refine lv_iconst (v := 0) hx hb dX13_blends_71 (by decide) ?_
              refine lv_iadd hx hb dX13_blends_72 ?_
              refine lv_istore_n (lv' := [(3, .int ((q + 0))), (0, .ref (t.2.1 0)), (1, .int (v)), (2, .int (w)), (4, .int ((nI a)))]) hx hb dX13_blends_73 rfl hl (by decide) rfl (fun ls hl => ?_)
              refine lv_iinc (v := (nI (a + 1))) (lv' := [(4, .int ((nI (a + 1)))), (3, .int ((q + 0))), (0, .ref (t.2.1 0)), (1, .int (v)), (2, .int (w))]) hx hb dX13_blends_74 hl (k := 4) rfl (nn_1 rfl) (by decide) rfl (fun ls hl => ?_)
              refine lv_goto (tgt := 36) hx hb dX13_blends_77 (by decide) ?_
              exact ih_36 ((a + 1)) _ _ _ ls (by omega) (by have h := he; simp only [lp] at h; rw [if_neg c_64] at h; exact h) hP hS (lv_sub hl [2, 3, 4, 1, 0] rfl)
            · skip
              refine lv_iconst (v := 1) hx hb dX13_blends_67 (by decide) ?_
              refine lv_goto (tgt := 72) hx hb dX13_blends_68 (by decide) ?_
              refine lv_iadd hx hb dX13_blends_72 ?_
              refine lv_istore_n (lv' := [(3, .int ((q + 1))), (0, .ref (t.2.1 0)), (1, .int (v)), (2, .int (w)), (4, .int ((nI a)))]) hx hb dX13_blends_73 rfl hl (by decide) rfl (fun ls hl => ?_)
              refine lv_iinc (v := (nI (a + 1))) (lv' := [(4, .int ((nI (a + 1)))), (3, .int ((q + 1))), (0, .ref (t.2.1 0)), (1, .int (v)), (2, .int (w))]) hx hb dX13_blends_74 hl (k := 4) rfl (nn_1 rfl) (by decide) rfl (fun ls hl => ?_)
              refine lv_goto (tgt := 36) hx hb dX13_blends_77 (by decide) ?_
              exact ih_36 ((a + 1)) _ _ _ ls (by omega) (by have h := he; simp only [lp] at h; rw [if_pos c_64] at h; exact h) hP hS (lv_sub hl [2, 3, 4, 1, 0] rfl)
      exact lp_36 (2 ^ pN r) 0 _ _ _ ls (by omega) (rfl) hP hS (lv_sub hl [2, 3, 4, 1, 0] rfl)
    · skip
      refine lv_aload_n hx hb dX13_blends_24 rfl (lv_at hl 0 rfl) ?_
      refine lv_ldc (v := (-1000001)) hx hb hown (hts _ q1305) dX13_blends_25 ?_
      refine c_finds S hK hP hS (rm_ok (Nat.le_of_ble_eq_true rfl)) hl.1 (0) (by decide) (by decide) (Nat.le_of_ble_eq_true rfl) dX13_blends_27 (fun H locs hP hS => ?_)
      exact kk_iretW S hr hlk hS (by simp only [o_blends, c_9, c_21, reduceIte, and_self, oF, oK, fx]; exact hP) (by simp only [o_blends, c_9, c_21, reduceIte, and_self, oF, oK, fnd] <;> first | rfl | decide) dX13_blends_30
section MC
variable {p : Program} {l : Launch} {e : Env} {R : Room} {s : State} {m : MethodId} {args : Array Value} {below : List Frame} {meth : Method} {c : Code} {H H0 : Heap} {locs : List Loc} {cells slots : Nat} {Q : State → Prop}
variable {cc : ByteArray} {pc nL : Nat} {ls : Array Slot} {rest : List Value} {t : MT} {r : Rw} {x : Nat → Rw}



end MC
set_option maxHeartbeats 4000000 in
set_option maxRecDepth 100000 in
theorem k_hoopsFor (l : Launch) (t : MT) (r : Rw) (x : Nat → Rw) (a : Int32) (n : Int32) (b : Nat) (hV : pV b r) (hb : b ≤ 99999) : Met l yX13_hoopsFor (ws_ yX13_hoopsFor cX13_hoopsFor 6 (some .int)) (rmF 7) (va_Pc [.ref (t.2.1 0), .int a, .int n] (fun U => mK t U ∧ mW t r x U.heap)) (kW (some (.int ((o_hoopsFor r a n).1))) (fun H => ∃ f, mW t ((o_hoopsFor r a n).2.1) (va_up (fx x (o_hoopsFor r a n).2.2) 3 f) H) (mA t)) 0 0 (mA t) := by
  refine kk_start (by decide) (Nat.le_of_ble_eq_true rfl) ?_
  intro p e s m below meth c S hr hlk hin hB ls hl
  obtain ⟨hK, hP⟩ := hB
  have hx := S.1
  have hb := S.2.1
  have hown : s.vm.findClass RX13 = some m.cls := S.2.2.2.1
  have hts := S.2.2.2.2
  have hS : va_S (mA t) s.heap s.heap [] := va_S.rf
  have hl : lv_has ls 6 [(0, .ref (t.2.1 0)), (1, .int (a)), (2, .int (n))] := hl
  have hn := hV.n.1
  have hn8 := hV.n.2
  refine lv_aload_n hx hb dX13_hoopsFor_0 rfl (lv_at hl 0 rfl) ?_
  refine lv_iload_n hx hb dX13_hoopsFor_1 rfl (lv_at hl 1 rfl) ?_
  refine c_isCask S hK hP (rm_ok (Nat.le_of_ble_eq_true rfl)) hl.1 (Nat.le_of_ble_eq_true rfl) dX13_hoopsFor_2 ?_
  refine kb_ifeq (tgt := 20) S dX13_hoopsFor_5 (by decide) (fun c_5 => ?_) (fun c_5 => ?_)
  · skip
    refine lv_aload_n hx hb dX13_hoopsFor_20 rfl (lv_at hl 0 rfl) ?_
    refine lv_ldc (v := (-1000001)) hx hb hown (hts _ q1305) dX13_hoopsFor_21 ?_
    refine c_finds S hK hP hS (rm_ok (Nat.le_of_ble_eq_true rfl)) hl.1 (0) (by decide) (by decide) (Nat.le_of_ble_eq_true rfl) dX13_hoopsFor_23 (fun H locs hP hS => ?_)
    exact kk_iretW S hr hlk hS (by simp only [o_hoopsFor, c_5, reduceIte, and_self, oF, oK, fx]; exact mW_a hP) (by simp only [o_hoopsFor, c_5, reduceIte, and_self, oF, oK, fnd] <;> first | rfl | decide) dX13_hoopsFor_26
  · skip
    refine lv_iload_n hx hb dX13_hoopsFor_8 rfl (lv_at hl 2 rfl) ?_
    refine lv_i2l hx hb dX13_hoopsFor_9 rfl ?_
    refine lv_lconst (v := (0 : Int32).toInt64) hx hb dX13_hoopsFor_10 (by decide) ?_
    refine lv_ldc2 (v := ((20) : Int32).toInt64) hx hb hown (hts _ q1497) dX13_hoopsFor_11 ?_
    refine c_isIn S (rm_ok (Nat.le_of_ble_eq_true rfl)) hl.1 (Nat.le_of_ble_eq_true rfl) dX13_hoopsFor_14 ?_
    refine kb_ifne (tgt := 27) S dX13_hoopsFor_17 (by decide) (fun c_17 => ?_) (fun c_17 => ?_)
    · skip
      obtain ⟨a_, ha_, rfl⟩ := nat_of_lt (n := pN r) (hn) (by omega) c_5
      have hcl_a_ := nI_clamp (n := a_) (by omega)
      obtain ⟨n_, hn_, rfl⟩ := nat_of_le (n := 20) (rfl) (by omega) c_17
      have hcl_n_ := nI_clamp (n := n_) (by omega)
      refine lv_aload_n hx hb dX13_hoopsFor_27 rfl (lv_at hl 0 rfl) ?_
      refine lv_iload_n hx hb dX13_hoopsFor_28 rfl (lv_at hl 1 rfl) ?_
      refine lv_iconst (v := 4) hx hb dX13_hoopsFor_29 (by decide) ?_
      refine c_its S hK hP (rm_ok (Nat.le_of_ble_eq_true rfl)) hl.1 (a_) (4) (by omega) (by omega) rfl rfl (Nat.le_of_ble_eq_true rfl) dX13_hoopsFor_30 ?_
      refine lv_istore_n (lv' := [(3, .int (r (16 + 7 * a_ + 4))), (0, .ref (t.2.1 0)), (1, .int ((nI a_))), (2, .int ((nI n_)))]) hx hb dX13_hoopsFor_33 rfl hl (by decide) rfl (fun ls hl => ?_)
      refine lv_iconst (v := (-1)) hx hb dX13_hoopsFor_34 (by decide) ?_
      refine lv_istore (lv' := [(4, .int ((-1))), (3, .int (r (16 + 7 * a_ + 4))), (0, .ref (t.2.1 0)), (1, .int ((nI a_))), (2, .int ((nI n_)))]) hx hb dX13_hoopsFor_35 hl (by decide) rfl (fun ls hl => ?_)
      refine lv_iconst (v := 0) hx hb dX13_hoopsFor_37 (by decide) ?_
      refine lv_istore (lv' := [(5, .int (0)), (4, .int ((-1))), (3, .int (r (16 + 7 * a_ + 4))), (0, .ref (t.2.1 0)), (1, .int ((nI a_))), (2, .int ((nI n_)))]) hx hb dX13_hoopsFor_38 hl (by decide) rfl (fun ls hl => ?_)
      have lp_40 : ∀ (j v : Nat) (bb : Option Nat) (r1 : Rw) (x1 : Nat → Rw) (H : Heap) (locs : List Loc) (ls : Array Slot), v + j = 201 → (bb.or (ffs (p_hoP r a_ n_) j v) = p_hoop r a_ n_) → (∃ u, r1 = upd r (16 + 7 * a_ + 4) u) → (∃ f, x1 = va_up x 3 f) → (∀ i, bb = some i → i < 201) → mW t (r1) (x1) H → va_S (mA t) s.heap H locs → lv_has ls 6 [(0, .ref (t.2.1 0)), (1, .int ((nI a_))), (2, .int ((nI n_))), (3, .int (r (16 + 7 * a_ + 4))), (4, .int ((oi bb))), (5, .int ((nI v)))] → W p l e (rmF 7) s m ([.ref (t.2.1 0), .int (nI a_), .int (nI n_)] : List Value).toArray below meth c H locs 0 0 (MQ below (kW (some (.int ((o_hoopsFor r (nI a_) (nI n_)).1))) (fun H => ∃ f, mW t ((o_hoopsFor r (nI a_) (nI n_)).2.1) (va_up (fx x (o_hoopsFor r (nI a_) (nI n_)).2.2) 3 f) H) (mA t)) ([.ref (t.2.1 0), .int (nI a_), .int (nI n_)] : List Value).toArray s 0 0 (mA t)) (F0 m 40 ls []) := by
        intro j
        induction j with
        | zero =>
          intro v bb r1 x1 H locs ls hkj he hr1 hx1 hb8 hP hS hl
          obtain ⟨u1, rfl⟩ := hr1
          obtain ⟨f1, rfl⟩ := hx1
          refine lv_iload hx hb dX13_hoopsFor_40 (lv_at hl 5 rfl) ?_
          refine lv_sipush (v := 200) hx hb dX13_hoopsFor_42 (by decide) ?_
          refine kb_gt_n (tgt := 97) (a := v) (b := 200) S rfl rfl (by omega) (by omega) dX13_hoopsFor_45 (by decide) (fun c_45 => ?_) (fun c_45 => ?_)
          · skip
            have he0 : bb = p_hoop r a_ n_ := or_none_.symm.trans he
            refine lv_aload_n hx hb dX13_hoopsFor_97 rfl (lv_at hl 0 rfl) ?_
            refine mg_s S hK hP dX13_hoopsFor_98 ?_
            refine lv_iload_n hx hb dX13_hoopsFor_101 rfl (lv_at hl 1 rfl) ?_
            refine lv_iconst (v := 4) hx hb dX13_hoopsFor_102 (by decide) ?_
            refine c_at S (rm_ok (Nat.le_of_ble_eq_true rfl)) hl.1 (a_) (4) rfl rfl (Nat.le_of_ble_eq_true rfl) dX13_hoopsFor_103 ?_
            refine lv_iload_n hx hb dX13_hoopsFor_106 rfl (lv_at hl 3 rfl) ?_
            refine mk_sts S hK hP hS ((16 + 7 * a_ + 4)) (by omega) rfl dX13_hoopsFor_107 (fun H locs hP hS => ?_)
            rw [up_up, up_eta] at hP
            refine lv_aload_n hx hb dX13_hoopsFor_108 rfl (lv_at hl 0 rfl) ?_
            refine lv_iload hx hb dX13_hoopsFor_109 (lv_at hl 4 rfl) ?_
            refine c_orNoneO S hK hP hS (rm_ok (Nat.le_of_ble_eq_true rfl)) hl.1 (fun i hi => Nat.lt_trans (hb8 i hi) (by decide)) (Nat.le_of_ble_eq_true rfl) dX13_hoopsFor_111 (fun H locs hP hS => ?_)
            exact kk_iretW S hr hlk hS (by simp only [o_hoopsFor, c_5, c_17, hcl_a_, hcl_n_, reduceIte, and_self, oU_r]; rw [← he0]; exact mW_a3 hP) (by simp only [o_hoopsFor, c_5, c_17, hcl_a_, hcl_n_, reduceIte, and_self]; rw [← he0]) dX13_hoopsFor_114
          · exact absurd c_45 (by omega)
        | succ j ih =>
          intro v bb r1 x1 H locs ls hkj he hr1 hx1 hb8 hP hS hl
          have ih_40 := ih
          obtain ⟨u1, rfl⟩ := hr1
          obtain ⟨f1, rfl⟩ := hx1
          refine lv_iload hx hb dX13_hoopsFor_40 (lv_at hl 5 rfl) ?_
          refine lv_sipush (v := 200) hx hb dX13_hoopsFor_42 (by decide) ?_
          refine kb_gt_n (tgt := 97) (a := v) (b := 200) S rfl rfl (by omega) (by omega) dX13_hoopsFor_45 (by decide) (fun c_45 => ?_) (fun c_45 => ?_)
          · exact absurd c_45 (by omega)
          · skip
            refine lv_iload hx hb dX13_hoopsFor_48 (lv_at hl 4 rfl) ?_
            refine kb_ifge_o (tgt := 97) S dX13_hoopsFor_50 (by decide) (fun c_50 => ?_) (fun c_50 => ?_) (fun i hi => Nat.lt_trans (hb8 i hi) (by decide))
            · skip
              obtain ⟨bb_50, rfl⟩ := c_50
              have hbb_50 := hb8 _ rfl
              have he0 : some bb_50 = p_hoop r a_ n_ := he
              refine lv_aload_n hx hb dX13_hoopsFor_97 rfl (lv_at hl 0 rfl) ?_
              refine mg_s S hK hP dX13_hoopsFor_98 ?_
              refine lv_iload_n hx hb dX13_hoopsFor_101 rfl (lv_at hl 1 rfl) ?_
              refine lv_iconst (v := 4) hx hb dX13_hoopsFor_102 (by decide) ?_
              refine c_at S (rm_ok (Nat.le_of_ble_eq_true rfl)) hl.1 (a_) (4) rfl rfl (Nat.le_of_ble_eq_true rfl) dX13_hoopsFor_103 ?_
              refine lv_iload_n hx hb dX13_hoopsFor_106 rfl (lv_at hl 3 rfl) ?_
              refine mk_sts S hK hP hS ((16 + 7 * a_ + 4)) (by omega) rfl dX13_hoopsFor_107 (fun H locs hP hS => ?_)
              rw [up_up, up_eta] at hP
              refine lv_aload_n hx hb dX13_hoopsFor_108 rfl (lv_at hl 0 rfl) ?_
              refine lv_iload hx hb dX13_hoopsFor_109 (lv_at hl 4 rfl) ?_
              refine c_orNoneO S hK hP hS (rm_ok (Nat.le_of_ble_eq_true rfl)) hl.1 (fun i hi => Nat.lt_trans (hb8 i hi) (by decide)) (Nat.le_of_ble_eq_true rfl) dX13_hoopsFor_111 (fun H locs hP hS => ?_)
              exact kk_iretW S hr hlk hS (by simp only [o_hoopsFor, c_5, c_17, hcl_a_, hcl_n_, reduceIte, and_self, oU_r]; rw [← he0]; exact mW_a3 hP) (by simp only [o_hoopsFor, c_5, c_17, hcl_a_, hcl_n_, reduceIte, and_self]; rw [← he0]) dX13_hoopsFor_114
            · skip
              subst c_50
              refine lv_aload_n hx hb dX13_hoopsFor_53 rfl (lv_at hl 0 rfl) ?_
              refine mg_s S hK hP dX13_hoopsFor_54 ?_
              refine lv_iload_n hx hb dX13_hoopsFor_57 rfl (lv_at hl 1 rfl) ?_
              refine lv_iconst (v := 4) hx hb dX13_hoopsFor_58 (by decide) ?_
              refine c_at S (rm_ok (Nat.le_of_ble_eq_true rfl)) hl.1 (a_) (4) rfl rfl (Nat.le_of_ble_eq_true rfl) dX13_hoopsFor_59 ?_
              refine lv_iload hx hb dX13_hoopsFor_62 (lv_at hl 5 rfl) ?_
              refine mk_sts S hK hP hS ((16 + 7 * a_ + 4)) (by omega) rfl dX13_hoopsFor_64 (fun H locs hP hS => ?_)
              rw [up_up] at hP
              refine lv_aload_n hx hb dX13_hoopsFor_65 rfl (lv_at hl 0 rfl) ?_
              refine lv_iload_n hx hb dX13_hoopsFor_66 rfl (lv_at hl 1 rfl) ?_
              refine lv_bipush (v := 6) hx hb dX13_hoopsFor_67 (by decide) ?_
              refine lv_iload_n hx hb dX13_hoopsFor_69 rfl (lv_at hl 2 rfl) ?_
              refine c_then S hK hP hS (rm_ok (Nat.le_of_ble_eq_true rfl)) hl.1 (a_) (6) (n_) (b) (by omega) (by decide) (pV_free hV (by omega)) (by omega) rfl rfl rfl (Nat.le_of_ble_eq_true rfl) dX13_hoopsFor_70 (fun H locs hP hS => ?_)
              refine lv_aload_n hx hb dX13_hoopsFor_73 rfl (lv_at hl 0 rfl) ?_
              refine lv_iload_n hx hb dX13_hoopsFor_74 rfl (lv_at hl 1 rfl) ?_
              refine lv_bipush (v := 6) hx hb dX13_hoopsFor_75 (by decide) ?_
              refine c_its S hK hP (rm_ok (Nat.le_of_ble_eq_true rfl)) hl.1 (a_) (6) (by omega) (by omega) rfl rfl (Nat.le_of_ble_eq_true rfl) dX13_hoopsFor_77 ?_
              refine lv_icmp_ne (tgt := 88) hx hb dX13_hoopsFor_80 (by decide) (fun c_80 => ?_) (fun c_80 => ?_)
              · skip
                refine lv_iconst (v := (-1)) hx hb dX13_hoopsFor_88 (by decide) ?_
                refine lv_istore (lv' := [(4, .int ((-1))), (0, .ref (t.2.1 0)), (1, .int ((nI a_))), (2, .int ((nI n_))), (3, .int (r (16 + 7 * a_ + 4))), (5, .int ((nI v)))]) hx hb dX13_hoopsFor_89 hl (by decide) rfl (fun ls hl => ?_)
                refine lv_iinc (v := (nI (v + 1))) (lv' := [(5, .int ((nI (v + 1)))), (4, .int ((-1))), (0, .ref (t.2.1 0)), (1, .int ((nI a_))), (2, .int ((nI n_))), (3, .int (r (16 + 7 * a_ + 4)))]) hx hb dX13_hoopsFor_91 hl (k := 5) rfl (nn_1 rfl) (by decide) rfl (fun ls hl => ?_)
                refine lv_goto (tgt := 40) hx hb dX13_hoopsFor_94 (by decide) ?_
                exact ih_40 ((v + 1)) none _ _ _ _ ls (by omega) (by have h := he; rw [ffs, if_neg (show ¬ p_hoP r a_ n_ v = true from fun z => c_80 ((of_decide_eq_true z).trans (up_n (by omega)).symm))] at h; exact h) (⟨_, rfl⟩) (⟨_, bx_uu _ _ _ _⟩) (fun i hi => by cases hi <;> omega) hP hS (lv_sub hl [2, 3, 4, 5, 1, 0] rfl)
              · skip
                refine lv_iload hx hb dX13_hoopsFor_83 (lv_at hl 5 rfl) ?_
                refine lv_goto (tgt := 89) hx hb dX13_hoopsFor_85 (by decide) ?_
                refine lv_istore (lv' := [(4, .int ((nI v))), (0, .ref (t.2.1 0)), (1, .int ((nI a_))), (2, .int ((nI n_))), (3, .int (r (16 + 7 * a_ + 4))), (5, .int ((nI v)))]) hx hb dX13_hoopsFor_89 hl (by decide) rfl (fun ls hl => ?_)
                refine lv_iinc (v := (nI (v + 1))) (lv' := [(5, .int ((nI (v + 1)))), (4, .int ((nI v))), (0, .ref (t.2.1 0)), (1, .int ((nI a_))), (2, .int ((nI n_))), (3, .int (r (16 + 7 * a_ + 4)))]) hx hb dX13_hoopsFor_91 hl (k := 5) rfl (nn_1 rfl) (by decide) rfl (fun ls hl => ?_)
                refine lv_goto (tgt := 40) hx hb dX13_hoopsFor_94 (by decide) ?_
                exact ih_40 ((v + 1)) (some (v)) _ _ _ _ ls (by omega) (by have h := he; rw [ffs, if_pos (show p_hoP r a_ n_ v = true from decide_eq_true (c_80.trans (up_n (by omega))))] at h; exact h) (⟨_, rfl⟩) (⟨_, bx_uu _ _ _ _⟩) (fun i hi => by cases hi <;> omega) hP hS (lv_sub hl [2, 3, 4, 5, 1, 0] rfl)
      exact lp_40 201 0 none _ _ _ _ ls (by omega) (rfl) (⟨_, (up_eta r _).symm⟩) (⟨_, (va_eta x 3).symm⟩) (fun _ h => by cases h) hP hS (lv_sub hl [3, 4, 5, 2, 1, 0] rfl)
    · skip
      refine lv_aload_n hx hb dX13_hoopsFor_20 rfl (lv_at hl 0 rfl) ?_
      refine lv_ldc (v := (-1000001)) hx hb hown (hts _ q1305) dX13_hoopsFor_21 ?_
      refine c_finds S hK hP hS (rm_ok (Nat.le_of_ble_eq_true rfl)) hl.1 (0) (by decide) (by decide) (Nat.le_of_ble_eq_true rfl) dX13_hoopsFor_23 (fun H locs hP hS => ?_)
      exact kk_iretW S hr hlk hS (by simp only [o_hoopsFor, c_5, c_17, reduceIte, and_self, oF, oK, fx]; exact mW_a hP) (by simp only [o_hoopsFor, c_5, c_17, reduceIte, and_self, oF, oK, fnd] <;> first | rfl | decide) dX13_hoopsFor_26
set_option maxHeartbeats 4000000 in
set_option maxRecDepth 100000 in
theorem k_frostFor (l : Launch) (t : MT) (r : Rw) (x : Nat → Rw) (a : Int32) (n : Int32) (b : Nat) (hV : pV b r) (hb : b ≤ 99999) : Met l yX13_frostFor (ws_ yX13_frostFor cX13_frostFor 6 (some .int)) (rmF 7) (va_Pc [.ref (t.2.1 0), .int a, .int n] (fun U => mK t U ∧ mW t r x U.heap)) (kW (some (.int ((o_frostFor r a n).1))) (fun H => ∃ f, mW t ((o_frostFor r a n).2.1) (va_up (fx x (o_frostFor r a n).2.2) 3 f) H) (mA t)) 0 0 (mA t) := by
  refine kk_start (by decide) (Nat.le_of_ble_eq_true rfl) ?_
  intro p e s m below meth c S hr hlk hin hB ls hl
  obtain ⟨hK, hP⟩ := hB
  have hx := S.1
  have hb := S.2.1
  have hown : s.vm.findClass RX13 = some m.cls := S.2.2.2.1
  have hts := S.2.2.2.2
  have hS : va_S (mA t) s.heap s.heap [] := va_S.rf
  have hl : lv_has ls 6 [(0, .ref (t.2.1 0)), (1, .int (a)), (2, .int (n))] := hl
  have hn := hV.n.1
  have hn8 := hV.n.2
  refine lv_iload_n hx hb dX13_frostFor_0 rfl (lv_at hl 1 rfl) ?_
  refine c_isCellar S (rm_ok (Nat.le_of_ble_eq_true rfl)) hl.1 (Nat.le_of_ble_eq_true rfl) dX13_frostFor_1 ?_
  refine kb_ifeq (tgt := 19) S dX13_frostFor_4 (by decide) (fun c_4 => ?_) (fun c_4 => ?_)
  · skip
    refine lv_aload_n hx hb dX13_frostFor_19 rfl (lv_at hl 0 rfl) ?_
    refine lv_ldc (v := (-1000001)) hx hb hown (hts _ q1305) dX13_frostFor_20 ?_
    refine c_finds S hK hP hS (rm_ok (Nat.le_of_ble_eq_true rfl)) hl.1 (0) (by decide) (by decide) (Nat.le_of_ble_eq_true rfl) dX13_frostFor_22 (fun H locs hP hS => ?_)
    exact kk_iretW S hr hlk hS (by simp only [o_frostFor, c_4, reduceIte, and_self, oF, oK, fx]; exact mW_a hP) (by simp only [o_frostFor, c_4, reduceIte, and_self, oF, oK, fnd] <;> first | rfl | decide) dX13_frostFor_25
  · skip
    refine lv_iload_n hx hb dX13_frostFor_7 rfl (lv_at hl 2 rfl) ?_
    refine lv_i2l hx hb dX13_frostFor_8 rfl ?_
    refine lv_lconst (v := (0 : Int32).toInt64) hx hb dX13_frostFor_9 (by decide) ?_
    refine lv_ldc2 (v := ((40) : Int32).toInt64) hx hb hown (hts _ q1480) dX13_frostFor_10 ?_
    refine c_isIn S (rm_ok (Nat.le_of_ble_eq_true rfl)) hl.1 (Nat.le_of_ble_eq_true rfl) dX13_frostFor_13 ?_
    refine kb_ifne (tgt := 26) S dX13_frostFor_16 (by decide) (fun c_16 => ?_) (fun c_16 => ?_)
    · skip
      obtain ⟨a_, ha_, rfl⟩ := nat_of_lt (n := 6) (rfl) (by omega) c_4
      have hcl_a_ := nI_clamp (n := a_) (by omega)
      obtain ⟨n_, hn_, rfl⟩ := nat_of_le (n := 40) (rfl) (by omega) c_16
      have hcl_n_ := nI_clamp (n := n_) (by omega)
      refine lv_aload_n hx hb dX13_frostFor_26 rfl (lv_at hl 0 rfl) ?_
      refine mg_s S hK hP dX13_frostFor_27 ?_
      refine lv_iconst (v := 4) hx hb dX13_frostFor_30 (by decide) ?_
      refine lv_iload_n hx hb dX13_frostFor_31 rfl (lv_at hl 1 rfl) ?_
      refine lv_iadd hx hb dX13_frostFor_32 ?_
      refine mk_lds S hK hP ((4 + a_)) (by omega) (nn_add rfl rfl) dX13_frostFor_33 ?_
      refine lv_istore_n (lv' := [(3, .int (r ((4 + a_)))), (0, .ref (t.2.1 0)), (1, .int ((nI a_))), (2, .int ((nI n_)))]) hx hb dX13_frostFor_34 rfl hl (by decide) rfl (fun ls hl => ?_)
      refine lv_iconst (v := (-1)) hx hb dX13_frostFor_35 (by decide) ?_
      refine lv_istore (lv' := [(4, .int ((-1))), (3, .int (r ((4 + a_)))), (0, .ref (t.2.1 0)), (1, .int ((nI a_))), (2, .int ((nI n_)))]) hx hb dX13_frostFor_36 hl (by decide) rfl (fun ls hl => ?_)
      refine lv_bipush (v := 9) hx hb dX13_frostFor_38 (by decide) ?_
      refine lv_istore (lv' := [(5, .int (9)), (4, .int ((-1))), (3, .int (r ((4 + a_)))), (0, .ref (t.2.1 0)), (1, .int ((nI a_))), (2, .int ((nI n_)))]) hx hb dX13_frostFor_40 hl (by decide) rfl (fun ls hl => ?_)
      have lp_42 : ∀ (j : Nat) (bb : Option Nat) (r1 : Rw) (x1 : Nat → Rw) (H : Heap) (locs : List Loc) (ls : Array Slot), (j ≤ 10) → (bb.or (dn (p_frP r a_ n_) j) = p_fros r a_ n_) → (∃ u, r1 = upd r (4 + a_) u) → (∃ f, x1 = va_up x 3 f) → (∀ i, bb = some i → i < 10) → mW t (r1) (x1) H → va_S (mA t) s.heap H locs → lv_has ls 6 [(0, .ref (t.2.1 0)), (1, .int ((nI a_))), (2, .int ((nI n_))), (3, .int (r ((4 + a_)))), (4, .int ((oi bb))), (5, .int ((dj j)))] → W p l e (rmF 7) s m ([.ref (t.2.1 0), .int (nI a_), .int (nI n_)] : List Value).toArray below meth c H locs 0 0 (MQ below (kW (some (.int ((o_frostFor r (nI a_) (nI n_)).1))) (fun H => ∃ f, mW t ((o_frostFor r (nI a_) (nI n_)).2.1) (va_up (fx x (o_frostFor r (nI a_) (nI n_)).2.2) 3 f) H) (mA t)) ([.ref (t.2.1 0), .int (nI a_), .int (nI n_)] : List Value).toArray s 0 0 (mA t)) (F0 m 42 ls []) := by
        intro j
        induction j with
        | zero =>
          intro bb r1 x1 H locs ls hkj he hr1 hx1 hb8 hP hS hl
          obtain ⟨u1, rfl⟩ := hr1
          obtain ⟨f1, rfl⟩ := hx1
          refine lv_iload hx hb dX13_frostFor_42 (lv_at hl 5 rfl) ?_
          refine lv_if_lt (tgt := 90) hx hb dX13_frostFor_44 (by decide) (fun c_44 => ?_) (fun c_44 => ?_)
          · skip
            have he0 : bb = p_fros r a_ n_ := or_none_.symm.trans he
            refine lv_aload_n hx hb dX13_frostFor_90 rfl (lv_at hl 0 rfl) ?_
            refine mg_s S hK hP dX13_frostFor_91 ?_
            refine lv_iconst (v := 4) hx hb dX13_frostFor_94 (by decide) ?_
            refine lv_iload_n hx hb dX13_frostFor_95 rfl (lv_at hl 1 rfl) ?_
            refine lv_iadd hx hb dX13_frostFor_96 ?_
            refine lv_iload_n hx hb dX13_frostFor_97 rfl (lv_at hl 3 rfl) ?_
            refine mk_sts S hK hP hS ((4 + a_)) (by omega) (nn_add rfl rfl) dX13_frostFor_98 (fun H locs hP hS => ?_)
            rw [up_up, up_eta] at hP
            refine lv_aload_n hx hb dX13_frostFor_99 rfl (lv_at hl 0 rfl) ?_
            refine lv_iload hx hb dX13_frostFor_100 (lv_at hl 4 rfl) ?_
            refine c_orNoneO S hK hP hS (rm_ok (Nat.le_of_ble_eq_true rfl)) hl.1 (fun i hi => Nat.lt_trans (hb8 i hi) (by decide)) (Nat.le_of_ble_eq_true rfl) dX13_frostFor_102 (fun H locs hP hS => ?_)
            exact kk_iretW S hr hlk hS (by simp only [o_frostFor, c_4, c_16, hcl_a_, hcl_n_, reduceIte, and_self, oU_r]; rw [← he0]; exact mW_a3 hP) (by simp only [o_frostFor, c_4, c_16, hcl_a_, hcl_n_, reduceIte, and_self]; rw [← he0]) dX13_frostFor_105
          · exact absurd (show dj 0 < 0 by decide) c_44
        | succ j ih =>
          intro bb r1 x1 H locs ls hkj he hr1 hx1 hb8 hP hS hl
          have ih_42 := ih
          obtain ⟨u1, rfl⟩ := hr1
          obtain ⟨f1, rfl⟩ := hx1
          refine lv_iload hx hb dX13_frostFor_42 (lv_at hl 5 rfl) ?_
          refine kb_lt0_n (tgt := 90) (a := j) S rfl (by omega) dX13_frostFor_44 (by decide) (fun c_44 => ?_) (fun c_44 => ?_)
          · exact c_44.elim
          · skip
            refine lv_iload hx hb dX13_frostFor_47 (lv_at hl 4 rfl) ?_
            refine kb_ifge_o (tgt := 90) S dX13_frostFor_49 (by decide) (fun c_49 => ?_) (fun c_49 => ?_) (fun i hi => Nat.lt_trans (hb8 i hi) (by decide))
            · skip
              obtain ⟨bb_49, rfl⟩ := c_49
              have hbb_49 := hb8 _ rfl
              have he0 : some bb_49 = p_fros r a_ n_ := he
              refine lv_aload_n hx hb dX13_frostFor_90 rfl (lv_at hl 0 rfl) ?_
              refine mg_s S hK hP dX13_frostFor_91 ?_
              refine lv_iconst (v := 4) hx hb dX13_frostFor_94 (by decide) ?_
              refine lv_iload_n hx hb dX13_frostFor_95 rfl (lv_at hl 1 rfl) ?_
              refine lv_iadd hx hb dX13_frostFor_96 ?_
              refine lv_iload_n hx hb dX13_frostFor_97 rfl (lv_at hl 3 rfl) ?_
              refine mk_sts S hK hP hS ((4 + a_)) (by omega) (nn_add rfl rfl) dX13_frostFor_98 (fun H locs hP hS => ?_)
              rw [up_up, up_eta] at hP
              refine lv_aload_n hx hb dX13_frostFor_99 rfl (lv_at hl 0 rfl) ?_
              refine lv_iload hx hb dX13_frostFor_100 (lv_at hl 4 rfl) ?_
              refine c_orNoneO S hK hP hS (rm_ok (Nat.le_of_ble_eq_true rfl)) hl.1 (fun i hi => Nat.lt_trans (hb8 i hi) (by decide)) (Nat.le_of_ble_eq_true rfl) dX13_frostFor_102 (fun H locs hP hS => ?_)
              exact kk_iretW S hr hlk hS (by simp only [o_frostFor, c_4, c_16, hcl_a_, hcl_n_, reduceIte, and_self, oU_r]; rw [← he0]; exact mW_a3 hP) (by simp only [o_frostFor, c_4, c_16, hcl_a_, hcl_n_, reduceIte, and_self]; rw [← he0]) dX13_frostFor_105
            · skip
              subst c_49
              refine lv_aload_n hx hb dX13_frostFor_52 rfl (lv_at hl 0 rfl) ?_
              refine mg_s S hK hP dX13_frostFor_53 ?_
              refine lv_iconst (v := 4) hx hb dX13_frostFor_56 (by decide) ?_
              refine lv_iload_n hx hb dX13_frostFor_57 rfl (lv_at hl 1 rfl) ?_
              refine lv_iadd hx hb dX13_frostFor_58 ?_
              refine lv_iload hx hb dX13_frostFor_59 (lv_at hl 5 rfl) ?_
              refine mk_sts S hK hP hS ((4 + a_)) (by omega) (nn_add rfl rfl) dX13_frostFor_61 (fun H locs hP hS => ?_)
              rw [up_up] at hP
              refine lv_aload_n hx hb dX13_frostFor_62 rfl (lv_at hl 0 rfl) ?_
              refine lv_iload_n hx hb dX13_frostFor_63 rfl (lv_at hl 2 rfl) ?_
              refine c_clapsThen S hK hP hS (rm_ok (Nat.le_of_ble_eq_true rfl)) hl.1 (n_) (b) (pV_free hV (by omega)) (by omega) rfl (Nat.le_of_ble_eq_true rfl) dX13_frostFor_64 (fun H locs hP hS => ?_)
              refine lv_aload_n hx hb dX13_frostFor_67 rfl (lv_at hl 0 rfl) ?_
              refine mg_s S hK hP dX13_frostFor_68 ?_
              refine lv_iconst (v := 3) hx hb dX13_frostFor_71 (by decide) ?_
              refine mk_lds S hK hP (3) (by omega) rfl dX13_frostFor_72 ?_
              refine lv_icmp_ne (tgt := 81) hx hb dX13_frostFor_73 (by decide) (fun c_73 => ?_) (fun c_73 => ?_)
              · skip
                refine lv_iconst (v := (-1)) hx hb dX13_frostFor_81 (by decide) ?_
                refine lv_istore (lv' := [(4, .int ((-1))), (0, .ref (t.2.1 0)), (1, .int ((nI a_))), (2, .int ((nI n_))), (3, .int (r ((4 + a_)))), (5, .int ((dj (j + 1))))]) hx hb dX13_frostFor_82 hl (by decide) rfl (fun ls hl => ?_)
                refine lv_iinc (v := (dj j)) (lv' := [(5, .int ((dj j))), (4, .int ((-1))), (0, .ref (t.2.1 0)), (1, .int ((nI a_))), (2, .int ((nI n_))), (3, .int (r ((4 + a_))))]) hx hb dX13_frostFor_84 hl (k := 5) rfl (dj_dec j) (by decide) rfl (fun ls hl => ?_)
                refine lv_goto (tgt := 42) hx hb dX13_frostFor_87 (by decide) ?_
                exact ih_42  none _ _ _ _ ls (by omega) (by have h := he; rw [dn, if_neg (show ¬ p_frP r a_ n_ j = true from fun z => c_73 ((of_decide_eq_true z).trans (up_n (by omega)).symm))] at h; exact h) (⟨_, rfl⟩) (⟨_, bx_uu _ _ _ _⟩) (fun i hi => by cases hi <;> omega) hP hS (lv_sub hl [2, 3, 4, 5, 1, 0] rfl)
              · skip
                refine lv_iload hx hb dX13_frostFor_76 (lv_at hl 5 rfl) ?_
                refine lv_goto (tgt := 82) hx hb dX13_frostFor_78 (by decide) ?_
                refine kb_nat (y := nI (j)) rfl ?_
                refine lv_istore (lv' := [(4, .int ((nI j))), (0, .ref (t.2.1 0)), (1, .int ((nI a_))), (2, .int ((nI n_))), (3, .int (r ((4 + a_)))), (5, .int ((dj (j + 1))))]) hx hb dX13_frostFor_82 hl (by decide) rfl (fun ls hl => ?_)
                refine lv_iinc (v := (dj j)) (lv' := [(5, .int ((dj j))), (4, .int ((nI j))), (0, .ref (t.2.1 0)), (1, .int ((nI a_))), (2, .int ((nI n_))), (3, .int (r ((4 + a_))))]) hx hb dX13_frostFor_84 hl (k := 5) rfl (dj_dec j) (by decide) rfl (fun ls hl => ?_)
                refine lv_goto (tgt := 42) hx hb dX13_frostFor_87 (by decide) ?_
                exact ih_42  (some (j)) _ _ _ _ ls (by omega) (by have h := he; rw [dn, if_pos (show p_frP r a_ n_ j = true from decide_eq_true (c_73.trans (up_n (by omega))))] at h; exact h) (⟨_, rfl⟩) (⟨_, bx_uu _ _ _ _⟩) (fun i hi => by cases hi <;> omega) hP hS (lv_sub hl [2, 3, 4, 5, 1, 0] rfl)
      exact lp_42 10 none _ _ _ _ ls (by decide) (rfl) (⟨_, (up_eta r _).symm⟩) (⟨_, (va_eta x 3).symm⟩) (fun _ h => by cases h) hP hS (lv_sub hl [3, 4, 5, 2, 1, 0] rfl)
    · skip
      refine lv_aload_n hx hb dX13_frostFor_19 rfl (lv_at hl 0 rfl) ?_
      refine lv_ldc (v := (-1000001)) hx hb hown (hts _ q1305) dX13_frostFor_20 ?_
      refine c_finds S hK hP hS (rm_ok (Nat.le_of_ble_eq_true rfl)) hl.1 (0) (by decide) (by decide) (Nat.le_of_ble_eq_true rfl) dX13_frostFor_22 (fun H locs hP hS => ?_)
      exact kk_iretW S hr hlk hS (by simp only [o_frostFor, c_4, c_16, reduceIte, and_self, oF, oK, fx]; exact mW_a hP) (by simp only [o_frostFor, c_4, c_16, reduceIte, and_self, oF, oK, fnd] <;> first | rfl | decide) dX13_frostFor_25

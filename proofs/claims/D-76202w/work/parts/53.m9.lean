set_option maxHeartbeats 4000000 in
set_option maxRecDepth 100000 in
theorem k_isSheet (l : Launch) (v : Int32) : Met l yX13_isSheet (ws_ yX13_isSheet cX13_isSheet 1 (some .boolean)) (rmF 0) (va_Pc [.int v] (fun _ => True)) (kR (some (.int (b2i (0 ≤ v ∧ v < 4))))) 0 0 (fun _ => False) := by
  refine kk_start (by decide) (Nat.le_of_ble_eq_true rfl) ?_
  intro p e s m below meth c S hr hlk hin hB ls hl
  have hx := S.1
  have hb := S.2.1
  have hown : s.vm.findClass RX13 = some m.cls := S.2.2.2.1
  have hts := S.2.2.2.2
  have hl : lv_has ls 1 [(0, .int (v))] := hl
  refine lv_iload_n hx hb dX13_isSheet_0 rfl (lv_at hl 0 rfl) ?_
  refine lv_if_lt (tgt := 13) hx hb dX13_isSheet_1 (by decide) (fun c_1 => ?_) (fun c_1 => ?_)
  · skip
    refine lv_iconst (v := 0) hx hb dX13_isSheet_13 (by decide) ?_
    exact kk_zfR S hr hlk rfl rfl (by grind) dX13_isSheet_14
  · skip
    refine lv_iload_n hx hb dX13_isSheet_4 rfl (lv_at hl 0 rfl) ?_
    refine lv_iconst (v := 4) hx hb dX13_isSheet_5 (by decide) ?_
    refine lv_icmp_ge (tgt := 13) hx hb dX13_isSheet_6 (by decide) (fun c_6 => ?_) (fun c_6 => ?_)
    · skip
      refine lv_iconst (v := 0) hx hb dX13_isSheet_13 (by decide) ?_
      exact kk_zfR S hr hlk rfl rfl (by grind) dX13_isSheet_14
    · skip
      refine lv_iconst (v := 1) hx hb dX13_isSheet_9 (by decide) ?_
      refine lv_goto (tgt := 14) hx hb dX13_isSheet_10 (by decide) ?_
      exact kk_ztR S hr hlk rfl rfl (by grind) dX13_isSheet_14
set_option maxHeartbeats 4000000 in
set_option maxRecDepth 100000 in
theorem k_empty (l : Launch) (t : MT) (r : Rw) (x : Nat → Rw) (n : Int32) (b : Nat) (hV : pV b r) (hb : b ≤ 99999) : Met l yX13_empty (ws_ yX13_empty cX13_empty 6 (some .int)) (rmF 6) (va_Pc [.ref (t.2.1 0), .int n] (fun U => mK t U ∧ mW t r x U.heap)) (kW (some (.int ((o_empty r n).1))) (fun H => ∃ f, mW t ((o_empty r n).2.1) (va_up (fx x (o_empty r n).2.2) 3 f) H) (mA t)) 0 0 (mA t) := by
  refine kk_start (by decide) (Nat.le_of_ble_eq_true rfl) ?_
  intro p e s m below meth c S hr hlk hin hB ls hl
  obtain ⟨hK, hP⟩ := hB
  have hx := S.1
  have hb := S.2.1
  have hown : s.vm.findClass RX13 = some m.cls := S.2.2.2.1
  have hts := S.2.2.2.2
  have hS : va_S (mA t) s.heap s.heap [] := va_S.rf
  have hl : lv_has ls 6 [(0, .ref (t.2.1 0)), (1, .int (n))] := hl
  have hn := hV.n.1
  have hn8 := hV.n.2
  have hp2 := p2_le hn8
  have hp1 := p2_pos (pN r)
  refine lv_iload_n hx hb dX13_empty_0 rfl (lv_at hl 1 rfl) ?_
  refine lv_i2l hx hb dX13_empty_1 rfl ?_
  refine lv_lconst (v := (0 : Int32).toInt64) hx hb dX13_empty_2 (by decide) ?_
  refine lv_ldc2 (v := ((12) : Int32).toInt64) hx hb hown (hts _ q1510) dX13_empty_3 ?_
  refine c_isIn S (rm_ok (Nat.le_of_ble_eq_true rfl)) hl.1 (Nat.le_of_ble_eq_true rfl) dX13_empty_6 ?_
  refine kb_ifne (tgt := 19) S dX13_empty_9 (by decide) (fun c_9 => ?_) (fun c_9 => ?_)
  · skip
    obtain ⟨n_, hn_, rfl⟩ := nat_of_le (n := 12) (rfl) (by omega) c_9
    have hcl_n_ := nI_clamp (n := n_) (by omega)
    refine lv_aload_n hx hb dX13_empty_19 rfl (lv_at hl 0 rfl) ?_
    refine mg_s S hK hP dX13_empty_20 ?_
    refine lv_iconst (v := 3) hx hb dX13_empty_23 (by decide) ?_
    refine mk_lds S hK hP (3) (by omega) rfl dX13_empty_24 ?_
    refine lv_istore_n (lv' := [(2, .int (r 3)), (0, .ref (t.2.1 0)), (1, .int ((nI n_)))]) hx hb dX13_empty_25 rfl hl (by decide) rfl (fun ls hl => ?_)
    refine lv_iconst (v := (-1)) hx hb dX13_empty_26 (by decide) ?_
    refine lv_istore_n (lv' := [(3, .int ((-1))), (2, .int (r 3)), (0, .ref (t.2.1 0)), (1, .int ((nI n_)))]) hx hb dX13_empty_27 rfl hl (by decide) rfl (fun ls hl => ?_)
    refine lv_aload_n hx hb dX13_empty_28 rfl (lv_at hl 2 rfl) ?_
    refine mg_s S hK hP dX13_empty_29 ?_
    refine lv_aload_n hx hb dX13_empty_32 rfl (lv_at hl 2 rfl) ?_
    refine mg_aside S hK hP dX13_empty_33 ?_
    refine c_copyRow_1_4 S hK hP hS (rm_ok (Nat.le_of_ble_eq_true rfl)) hl.1 (Nat.le_of_ble_eq_true rfl) dX13_empty_36 (fun H locs hP hS => ?_)
    refine lv_iconst (v := 0) hx hb dX13_empty_39 (by decide) ?_
    refine lv_istore (lv' := [(4, .int (0)), (3, .int ((-1))), (2, .int (r 3)), (0, .ref (t.2.1 0)), (1, .int ((nI n_)))]) hx hb dX13_empty_40 hl (by decide) rfl (fun ls hl => ?_)
    have lp_42 : ∀ (j a : Nat) (bb : Option Nat) (H : Heap) (locs : List Loc) (ls : Array Slot), a + j = 2 ^ pN r → (lp (p_few (p_empP r n_)) j a bb = p_empt r n_) → (∀ i, bb = some i → i < 256) → mW t (r) ((va_up x 3 r)) H → va_S (mA t) s.heap H locs → lv_has ls 6 [(0, .ref (t.2.1 0)), (1, .int ((nI n_))), (2, .int (r 3)), (3, .int ((oi bb))), (4, .int ((nI a)))] → W p l e (rmF 6) s m ([.ref (t.2.1 0), .int (nI n_)] : List Value).toArray below meth c H locs 0 0 (MQ below (kW (some (.int ((o_empty r (nI n_)).1))) (fun H => ∃ f, mW t ((o_empty r (nI n_)).2.1) (va_up (fx x (o_empty r (nI n_)).2.2) 3 f) H) (mA t)) ([.ref (t.2.1 0), .int (nI n_)] : List Value).toArray s 0 0 (mA t)) (F0 m 42 ls []) := by
      intro j
      induction j with
      | zero =>
        intro a bb H locs ls hkj he hb8 hP hS hl
        refine lv_iload hx hb dX13_empty_42 (lv_at hl 4 rfl) ?_
        refine lv_iconst (v := 1) hx hb dX13_empty_44 (by decide) ?_
        refine lv_aload_n hx hb dX13_empty_45 rfl (lv_at hl 0 rfl) ?_
        refine mg_s S hK hP dX13_empty_46 ?_
        refine lv_iconst (v := 0) hx hb dX13_empty_49 (by decide) ?_
        refine mk_lds S hK hP (0) (by omega) rfl dX13_empty_50 ?_
        refine lv_ishl hx hb dX13_empty_51 ?_
        refine kb_ge_n (tgt := 196) (a := a) (b := (2 ^ pN r)) S rfl (by rw [hn]; exact nn_shl1 _ (by omega)) (by omega) (by omega) dX13_empty_52 (by decide) (fun c_52 => ?_) (fun c_52 => ?_)
        · skip
          have he0 : bb = p_empt r n_ := he
          subst he0
          refine lv_aload_n hx hb dX13_empty_196 rfl (lv_at hl 0 rfl) ?_
          refine lv_iload_n hx hb dX13_empty_197 rfl (lv_at hl 3 rfl) ?_
          refine c_orNoneO S hK hP hS (rm_ok (Nat.le_of_ble_eq_true rfl)) hl.1 (fun i hi => Nat.lt_trans (hb8 i hi) (by decide)) (Nat.le_of_ble_eq_true rfl) dX13_empty_198 (fun H locs hP hS => ?_)
          exact kk_iretW S hr hlk hS (by simp only [o_empty, c_9, hcl_n_, reduceIte, and_self, oU_r]; exact mW_a3 hP) (by simp only [o_empty, c_9, hcl_n_, reduceIte, and_self]) dX13_empty_201
        · exact absurd c_52 (by omega)
      | succ j ih =>
        intro a bb H locs ls hkj he hb8 hP hS hl
        have ih_42 := ih
        refine lv_iload hx hb dX13_empty_42 (lv_at hl 4 rfl) ?_
        refine lv_iconst (v := 1) hx hb dX13_empty_44 (by decide) ?_
        refine lv_aload_n hx hb dX13_empty_45 rfl (lv_at hl 0 rfl) ?_
        refine mg_s S hK hP dX13_empty_46 ?_
        refine lv_iconst (v := 0) hx hb dX13_empty_49 (by decide) ?_
        refine mk_lds S hK hP (0) (by omega) rfl dX13_empty_50 ?_
        refine lv_ishl hx hb dX13_empty_51 ?_
        refine kb_ge_n (tgt := 196) (a := a) (b := (2 ^ pN r)) S rfl (by rw [hn]; exact nn_shl1 _ (by omega)) (by omega) (by omega) dX13_empty_52 (by decide) (fun c_52 => ?_) (fun c_52 => ?_)
        · exact absurd c_52 (by omega)
        · skip
          refine lv_iload_n hx hb dX13_empty_55 rfl (lv_at hl 3 rfl) ?_
          refine kb_iflt_o (tgt := 71) S dX13_empty_56 (by decide) (fun c_56 => ?_) (fun c_56 => ?_) (fun i hi => Nat.lt_trans (hb8 i hi) (by decide))
          · skip
            subst c_56
            refine lv_iconst (v := 0) hx hb dX13_empty_71 (by decide) ?_
            refine lv_istore (lv' := [(5, .int (0)), (0, .ref (t.2.1 0)), (1, .int ((nI n_))), (2, .int (r 3)), (3, .int ((oi none))), (4, .int ((nI a)))]) hx hb dX13_empty_72 hl (by decide) rfl (fun ls hl => ?_)
            have lp_74 : ∀ (j q : Nat) (r1 : Rw) (H : Heap) (locs : List Loc) (ls : Array Slot), q + j = pN r → (lp (p_clr1 a) j q r1 = p_clrs r a) → (kp r r1) → mW t (r1) ((va_up x 3 r)) H → va_S (mA t) s.heap H locs → lv_has ls 6 [(0, .ref (t.2.1 0)), (1, .int ((nI n_))), (2, .int (r 3)), (3, .int ((oi none))), (4, .int ((nI a))), (5, .int ((nI q)))] → W p l e (rmF 6) s m ([.ref (t.2.1 0), .int (nI n_)] : List Value).toArray below meth c H locs 0 0 (MQ below (kW (some (.int ((o_empty r (nI n_)).1))) (fun H => ∃ f, mW t ((o_empty r (nI n_)).2.1) (va_up (fx x (o_empty r (nI n_)).2.2) 3 f) H) (mA t)) ([.ref (t.2.1 0), .int (nI n_)] : List Value).toArray s 0 0 (mA t)) (F0 m 74 ls []) := by
              intro j
              induction j with
              | zero =>
                intro q  r1 H locs ls hkj he2 hk1 hP hS hl
                refine lv_iload hx hb dX13_empty_74 (lv_at hl 5 rfl) ?_
                refine lv_aload_n hx hb dX13_empty_76 rfl (lv_at hl 0 rfl) ?_
                refine mg_s S hK hP dX13_empty_77 ?_
                refine lv_iconst (v := 0) hx hb dX13_empty_80 (by decide) ?_
                refine mk_lds S hK hP (0) (by omega) rfl dX13_empty_81 ?_
                refine kb_ge_n (tgt := 157) (a := q) (b := (pN r)) S rfl ((hk1 0 (by unfold pm; omega)).trans hn) (by omega) (by omega) dX13_empty_82 (by decide) (fun c_82 => ?_) (fun c_82 => ?_)
                · skip
                  have he0 : r1 = p_clrs r a := he2
                  subst he0
                  refine lv_aload_n hx hb dX13_empty_157 rfl (lv_at hl 0 rfl) ?_
                  refine lv_iload_n hx hb dX13_empty_158 rfl (lv_at hl 1 rfl) ?_
                  refine c_goes S hK hP hS (rm_ok (Nat.le_of_ble_eq_true rfl)) hl.1 (n_) (b) (hV.kp (kp_clrs hV a)) (by omega) rfl (Nat.le_of_ble_eq_true rfl) dX13_empty_159 (fun H locs hP hS => ?_)
                  refine lv_aload_n hx hb dX13_empty_162 rfl (lv_at hl 0 rfl) ?_
                  refine mg_s S hK hP dX13_empty_163 ?_
                  refine lv_iconst (v := 3) hx hb dX13_empty_166 (by decide) ?_
                  refine mk_lds S hK hP (3) (by omega) rfl dX13_empty_167 ?_
                  refine lv_iload_n hx hb dX13_empty_168 rfl (lv_at hl 2 rfl) ?_
                  refine lv_icmp_ne (tgt := 177) hx hb dX13_empty_169 (by decide) (fun c_169 => ?_) (fun c_169 => ?_)
                  · skip
                    refine lv_iload_n hx hb dX13_empty_177 rfl (lv_at hl 3 rfl) ?_
                    refine lv_istore_n (lv' := [(3, .int ((oi none))), (0, .ref (t.2.1 0)), (1, .int ((nI n_))), (2, .int (r 3)), (4, .int ((nI a))), (5, .int ((nI q)))]) hx hb dX13_empty_178 rfl hl (by decide) rfl (fun ls hl => ?_)
                    refine lv_aload_n hx hb dX13_empty_179 rfl (lv_at hl 1 rfl) ?_
                    refine mg_aside S hK hP dX13_empty_180 ?_
                    refine lv_aload_n hx hb dX13_empty_183 rfl (lv_at hl 1 rfl) ?_
                    refine mg_s S hK hP dX13_empty_184 ?_
                    refine c_copyRow_4_1 S hK hP hS (rm_ok (Nat.le_of_ble_eq_true rfl)) hl.1 (Nat.le_of_ble_eq_true rfl) dX13_empty_187 (fun H locs hP hS => ?_)
                    refine lv_iinc (v := (nI (a + 1))) (lv' := [(4, .int ((nI (a + 1)))), (3, .int ((oi none))), (0, .ref (t.2.1 0)), (1, .int ((nI n_))), (2, .int (r 3)), (5, .int ((nI q)))]) hx hb dX13_empty_190 hl (k := 4) rfl (nn_1 rfl) (by decide) rfl (fun ls hl => ?_)
                    refine lv_goto (tgt := 42) hx hb dX13_empty_193 (by decide) ?_
                    exact ih_42 ((a + 1)) none _ _ ls (by omega) (by have h := he; rw [lp, p_few] at h; rw [if_pos (show p_fewer a none = true from rfl)] at h; rw [if_neg (show ¬ p_empP r n_ a = true from fun z => c_169 (of_decide_eq_true z))] at h; exact h) (hb8) hP hS (lv_sub hl [2, 3, 4, 1, 0] rfl)
                  · skip
                    refine lv_iload hx hb dX13_empty_172 (lv_at hl 4 rfl) ?_
                    refine lv_goto (tgt := 178) hx hb dX13_empty_174 (by decide) ?_
                    refine lv_istore_n (lv' := [(3, .int ((nI a))), (0, .ref (t.2.1 0)), (1, .int ((nI n_))), (2, .int (r 3)), (4, .int ((nI a))), (5, .int ((nI q)))]) hx hb dX13_empty_178 rfl hl (by decide) rfl (fun ls hl => ?_)
                    refine lv_aload_n hx hb dX13_empty_179 rfl (lv_at hl 1 rfl) ?_
                    refine mg_aside S hK hP dX13_empty_180 ?_
                    refine lv_aload_n hx hb dX13_empty_183 rfl (lv_at hl 1 rfl) ?_
                    refine mg_s S hK hP dX13_empty_184 ?_
                    refine c_copyRow_4_1 S hK hP hS (rm_ok (Nat.le_of_ble_eq_true rfl)) hl.1 (Nat.le_of_ble_eq_true rfl) dX13_empty_187 (fun H locs hP hS => ?_)
                    refine lv_iinc (v := (nI (a + 1))) (lv' := [(4, .int ((nI (a + 1)))), (3, .int ((nI a))), (0, .ref (t.2.1 0)), (1, .int ((nI n_))), (2, .int (r 3)), (5, .int ((nI q)))]) hx hb dX13_empty_190 hl (k := 4) rfl (nn_1 rfl) (by decide) rfl (fun ls hl => ?_)
                    refine lv_goto (tgt := 42) hx hb dX13_empty_193 (by decide) ?_
                    exact ih_42 ((a + 1)) (some (a)) _ _ ls (by omega) (by have h := he; rw [lp, p_few] at h; rw [if_pos (show p_fewer a none = true from rfl)] at h; rw [if_pos (show p_empP r n_ a = true from decide_eq_true c_169)] at h; exact h) (fun i hi => by cases hi; omega) hP hS (lv_sub hl [2, 3, 4, 1, 0] rfl)
                · exact absurd c_82 (by omega)
              | succ j ih =>
                intro q  r1 H locs ls hkj he2 hk1 hP hS hl
                have ih_74 := ih
                refine lv_iload hx hb dX13_empty_74 (lv_at hl 5 rfl) ?_
                refine lv_aload_n hx hb dX13_empty_76 rfl (lv_at hl 0 rfl) ?_
                refine mg_s S hK hP dX13_empty_77 ?_
                refine lv_iconst (v := 0) hx hb dX13_empty_80 (by decide) ?_
                refine mk_lds S hK hP (0) (by omega) rfl dX13_empty_81 ?_
                refine kb_ge_n (tgt := 157) (a := q) (b := (pN r)) S rfl ((hk1 0 (by unfold pm; omega)).trans hn) (by omega) (by omega) dX13_empty_82 (by decide) (fun c_82 => ?_) (fun c_82 => ?_)
                · exact absurd c_82 (by omega)
                · skip
                  refine lv_aload_n hx hb dX13_empty_85 rfl (lv_at hl 0 rfl) ?_
                  refine mg_s S hK hP dX13_empty_86 ?_
                  refine lv_iload hx hb dX13_empty_89 (lv_at hl 5 rfl) ?_
                  refine lv_iconst (v := 2) hx hb dX13_empty_91 (by decide) ?_
                  refine c_at S (rm_ok (Nat.le_of_ble_eq_true rfl)) hl.1 (q) (2) rfl rfl (Nat.le_of_ble_eq_true rfl) dX13_empty_92 ?_
                  refine lv_iload hx hb dX13_empty_95 (lv_at hl 4 rfl) ?_
                  refine lv_iload hx hb dX13_empty_97 (lv_at hl 5 rfl) ?_
                  refine lv_ishr hx hb dX13_empty_99 ?_
                  refine lv_iconst (v := 1) hx hb dX13_empty_100 (by decide) ?_
                  refine lv_iand hx hb dX13_empty_101 ?_
                  refine lv_iconst (v := 1) hx hb dX13_empty_102 (by decide) ?_
                  refine kb_ne_n (tgt := 110) (a := ((a / 2 ^ q) &&& 1)) (b := 1) S (nn_and (nn_shr (by omega) (by omega)) rfl) rfl (Nat.lt_of_le_of_lt Nat.and_le_right (by omega)) (by omega) dX13_empty_103 (by decide) (fun c_103 => ?_) (fun c_103 => ?_)
                  · skip
                    refine lv_aload_n hx hb dX13_empty_110 rfl (lv_at hl 0 rfl) ?_
                    refine lv_iload hx hb dX13_empty_111 (lv_at hl 5 rfl) ?_
                    refine lv_iconst (v := 2) hx hb dX13_empty_113 (by decide) ?_
                    refine c_its S hK hP (rm_ok (Nat.le_of_ble_eq_true rfl)) hl.1 (q) (2) (by omega) (by omega) rfl rfl (Nat.le_of_ble_eq_true rfl) dX13_empty_114 ?_
                    refine mk_sts S hK hP hS ((16 + 7 * q + 2)) (by omega) rfl dX13_empty_117 (fun H locs hP hS => ?_)
                    rw [up_eta] at hP
                    refine lv_aload_n hx hb dX13_empty_118 rfl (lv_at hl 0 rfl) ?_
                    refine mg_s S hK hP dX13_empty_119 ?_
                    refine lv_iload hx hb dX13_empty_122 (lv_at hl 5 rfl) ?_
                    refine lv_iconst (v := 5) hx hb dX13_empty_124 (by decide) ?_
                    refine c_at S (rm_ok (Nat.le_of_ble_eq_true rfl)) hl.1 (q) (5) rfl rfl (Nat.le_of_ble_eq_true rfl) dX13_empty_125 ?_
                    refine lv_iload hx hb dX13_empty_128 (lv_at hl 4 rfl) ?_
                    refine lv_iload hx hb dX13_empty_130 (lv_at hl 5 rfl) ?_
                    refine lv_ishr hx hb dX13_empty_132 ?_
                    refine lv_iconst (v := 1) hx hb dX13_empty_133 (by decide) ?_
                    refine lv_iand hx hb dX13_empty_134 ?_
                    refine lv_iconst (v := 1) hx hb dX13_empty_135 (by decide) ?_
                    refine kb_ne_n (tgt := 143) (a := ((a / 2 ^ q) &&& 1)) (b := 1) S (nn_and (nn_shr (by omega) (by omega)) rfl) rfl (Nat.lt_of_le_of_lt Nat.and_le_right (by omega)) (by omega) dX13_empty_136 (by decide) (fun c_136 => ?_) (fun c_136 => ?_)
                    · skip
                      refine lv_aload_n hx hb dX13_empty_143 rfl (lv_at hl 0 rfl) ?_
                      refine lv_iload hx hb dX13_empty_144 (lv_at hl 5 rfl) ?_
                      refine lv_iconst (v := 5) hx hb dX13_empty_146 (by decide) ?_
                      refine c_its S hK hP (rm_ok (Nat.le_of_ble_eq_true rfl)) hl.1 (q) (5) (by omega) (by omega) rfl rfl (Nat.le_of_ble_eq_true rfl) dX13_empty_147 ?_
                      refine mk_sts S hK hP hS ((16 + 7 * q + 5)) (by omega) rfl dX13_empty_150 (fun H locs hP hS => ?_)
                      rw [up_eta] at hP
                      refine lv_iinc (v := (nI (q + 1))) (lv' := [(5, .int ((nI (q + 1)))), (0, .ref (t.2.1 0)), (1, .int ((nI n_))), (2, .int (r 3)), (3, .int ((oi none))), (4, .int ((nI a)))]) hx hb dX13_empty_151 hl (k := 5) rfl (nn_1 rfl) (by decide) rfl (fun ls hl => ?_)
                      refine lv_goto (tgt := 74) hx hb dX13_empty_154 (by decide) ?_
                      exact ih_74 ((q + 1)) _ _ _ ls (by omega) (by have h := he2; rw [lp, p_clr1, if_neg c_103] at h; exact h) (hk1) hP hS (lv_sub hl [1, 2, 3, 4, 5, 0] rfl)
                    · exact absurd c_136 c_103
                  · skip
                    refine lv_iconst (v := 0) hx hb dX13_empty_106 (by decide) ?_
                    refine lv_goto (tgt := 117) hx hb dX13_empty_107 (by decide) ?_
                    refine mk_sts S hK hP hS ((16 + 7 * q + 2)) (by omega) rfl dX13_empty_117 (fun H locs hP hS => ?_)
                    refine lv_aload_n hx hb dX13_empty_118 rfl (lv_at hl 0 rfl) ?_
                    refine mg_s S hK hP dX13_empty_119 ?_
                    refine lv_iload hx hb dX13_empty_122 (lv_at hl 5 rfl) ?_
                    refine lv_iconst (v := 5) hx hb dX13_empty_124 (by decide) ?_
                    refine c_at S (rm_ok (Nat.le_of_ble_eq_true rfl)) hl.1 (q) (5) rfl rfl (Nat.le_of_ble_eq_true rfl) dX13_empty_125 ?_
                    refine lv_iload hx hb dX13_empty_128 (lv_at hl 4 rfl) ?_
                    refine lv_iload hx hb dX13_empty_130 (lv_at hl 5 rfl) ?_
                    refine lv_ishr hx hb dX13_empty_132 ?_
                    refine lv_iconst (v := 1) hx hb dX13_empty_133 (by decide) ?_
                    refine lv_iand hx hb dX13_empty_134 ?_
                    refine lv_iconst (v := 1) hx hb dX13_empty_135 (by decide) ?_
                    refine kb_ne_n (tgt := 143) (a := ((a / 2 ^ q) &&& 1)) (b := 1) S (nn_and (nn_shr (by omega) (by omega)) rfl) rfl (Nat.lt_of_le_of_lt Nat.and_le_right (by omega)) (by omega) dX13_empty_136 (by decide) (fun c_136 => ?_) (fun c_136 => ?_)
                    · exact absurd c_103 c_136
                    · skip
                      refine lv_iconst (v := 0) hx hb dX13_empty_139 (by decide) ?_
                      refine lv_goto (tgt := 150) hx hb dX13_empty_140 (by decide) ?_
                      refine mk_sts S hK hP hS ((16 + 7 * q + 5)) (by omega) rfl dX13_empty_150 (fun H locs hP hS => ?_)
                      refine lv_iinc (v := (nI (q + 1))) (lv' := [(5, .int ((nI (q + 1)))), (0, .ref (t.2.1 0)), (1, .int ((nI n_))), (2, .int (r 3)), (3, .int ((oi none))), (4, .int ((nI a)))]) hx hb dX13_empty_151 hl (k := 5) rfl (nn_1 rfl) (by decide) rfl (fun ls hl => ?_)
                      refine lv_goto (tgt := 74) hx hb dX13_empty_154 (by decide) ?_
                      exact ih_74 ((q + 1)) _ _ _ ls (by omega) (by have h := he2; rw [lp, p_clr1, if_pos c_103] at h; exact h) (kp_clear hk1 (by omega)) hP hS (lv_sub hl [1, 2, 3, 4, 5, 0] rfl)
            exact lp_74 (pN r) 0 _ _ _ ls (by omega) (rfl) (kp.rf) hP hS (lv_sub hl [1, 2, 3, 4, 5, 0] rfl)
          · skip
            obtain ⟨bb_56, rfl⟩ := c_56
            have hbb_56 := hb8 _ rfl
            refine lv_iload hx hb dX13_empty_59 (lv_at hl 4 rfl) ?_
            refine c_many S (rm_ok (Nat.le_of_ble_eq_true rfl)) hl.1 (a) (by omega) rfl (Nat.le_of_ble_eq_true rfl) dX13_empty_61 ?_
            refine lv_iload_n hx hb dX13_empty_64 rfl (lv_at hl 3 rfl) ?_
            refine c_many S (rm_ok (Nat.le_of_ble_eq_true rfl)) hl.1 (bb_56) (by omega) (oi_some _) (Nat.le_of_ble_eq_true rfl) dX13_empty_65 ?_
            refine kb_ge_n (tgt := 190) (a := (p_many a)) (b := (p_many bb_56)) S rfl rfl (Nat.lt_of_le_of_lt (p_many_le _) (by omega)) (Nat.lt_of_le_of_lt (p_many_le _) (by omega)) dX13_empty_68 (by decide) (fun c_68 => ?_) (fun c_68 => ?_)
            · skip
              refine lv_iinc (v := (nI (a + 1))) (lv' := [(4, .int ((nI (a + 1)))), (0, .ref (t.2.1 0)), (1, .int ((nI n_))), (2, .int (r 3)), (3, .int ((oi (some bb_56))))]) hx hb dX13_empty_190 hl (k := 4) rfl (nn_1 rfl) (by decide) rfl (fun ls hl => ?_)
              refine lv_goto (tgt := 42) hx hb dX13_empty_193 (by decide) ?_
              exact ih_42 ((a + 1)) (some (bb_56)) _ _ ls (by omega) (by have h := he; rw [lp, p_few] at h; rw [if_neg (show ¬ p_fewer a (some bb_56) = true from fun z => absurd (of_decide_eq_true z) (Nat.not_lt.mpr c_68))] at h; exact h) (hb8) hP hS (lv_sub hl [1, 2, 3, 4, 0] rfl)
            · skip
              refine lv_iconst (v := 0) hx hb dX13_empty_71 (by decide) ?_
              refine lv_istore (lv' := [(5, .int (0)), (0, .ref (t.2.1 0)), (1, .int ((nI n_))), (2, .int (r 3)), (3, .int ((oi (some bb_56)))), (4, .int ((nI a)))]) hx hb dX13_empty_72 hl (by decide) rfl (fun ls hl => ?_)
              have lp_74 : ∀ (j q : Nat) (r1 : Rw) (H : Heap) (locs : List Loc) (ls : Array Slot), q + j = pN r → (lp (p_clr1 a) j q r1 = p_clrs r a) → (kp r r1) → mW t (r1) ((va_up x 3 r)) H → va_S (mA t) s.heap H locs → lv_has ls 6 [(0, .ref (t.2.1 0)), (1, .int ((nI n_))), (2, .int (r 3)), (3, .int ((oi (some bb_56)))), (4, .int ((nI a))), (5, .int ((nI q)))] → W p l e (rmF 6) s m ([.ref (t.2.1 0), .int (nI n_)] : List Value).toArray below meth c H locs 0 0 (MQ below (kW (some (.int ((o_empty r (nI n_)).1))) (fun H => ∃ f, mW t ((o_empty r (nI n_)).2.1) (va_up (fx x (o_empty r (nI n_)).2.2) 3 f) H) (mA t)) ([.ref (t.2.1 0), .int (nI n_)] : List Value).toArray s 0 0 (mA t)) (F0 m 74 ls []) := by
                intro j
                induction j with
                | zero =>
                  intro q  r1 H locs ls hkj he2 hk1 hP hS hl
                  refine lv_iload hx hb dX13_empty_74 (lv_at hl 5 rfl) ?_
                  refine lv_aload_n hx hb dX13_empty_76 rfl (lv_at hl 0 rfl) ?_
                  refine mg_s S hK hP dX13_empty_77 ?_
                  refine lv_iconst (v := 0) hx hb dX13_empty_80 (by decide) ?_
                  refine mk_lds S hK hP (0) (by omega) rfl dX13_empty_81 ?_
                  refine kb_ge_n (tgt := 157) (a := q) (b := (pN r)) S rfl ((hk1 0 (by unfold pm; omega)).trans hn) (by omega) (by omega) dX13_empty_82 (by decide) (fun c_82 => ?_) (fun c_82 => ?_)
                  · skip
                    have he0 : r1 = p_clrs r a := he2
                    subst he0
                    refine lv_aload_n hx hb dX13_empty_157 rfl (lv_at hl 0 rfl) ?_
                    refine lv_iload_n hx hb dX13_empty_158 rfl (lv_at hl 1 rfl) ?_
                    refine c_goes S hK hP hS (rm_ok (Nat.le_of_ble_eq_true rfl)) hl.1 (n_) (b) (hV.kp (kp_clrs hV a)) (by omega) rfl (Nat.le_of_ble_eq_true rfl) dX13_empty_159 (fun H locs hP hS => ?_)
                    refine lv_aload_n hx hb dX13_empty_162 rfl (lv_at hl 0 rfl) ?_
                    refine mg_s S hK hP dX13_empty_163 ?_
                    refine lv_iconst (v := 3) hx hb dX13_empty_166 (by decide) ?_
                    refine mk_lds S hK hP (3) (by omega) rfl dX13_empty_167 ?_
                    refine lv_iload_n hx hb dX13_empty_168 rfl (lv_at hl 2 rfl) ?_
                    refine lv_icmp_ne (tgt := 177) hx hb dX13_empty_169 (by decide) (fun c_169 => ?_) (fun c_169 => ?_)
                    · skip
                      refine lv_iload_n hx hb dX13_empty_177 rfl (lv_at hl 3 rfl) ?_
                      refine kb_nat (y := nI (bb_56)) (oi_some _) ?_
                      refine lv_istore_n (lv' := [(3, .int ((nI bb_56))), (0, .ref (t.2.1 0)), (1, .int ((nI n_))), (2, .int (r 3)), (4, .int ((nI a))), (5, .int ((nI q)))]) hx hb dX13_empty_178 rfl hl (by decide) rfl (fun ls hl => ?_)
                      refine lv_aload_n hx hb dX13_empty_179 rfl (lv_at hl 1 rfl) ?_
                      refine mg_aside S hK hP dX13_empty_180 ?_
                      refine lv_aload_n hx hb dX13_empty_183 rfl (lv_at hl 1 rfl) ?_
                      refine mg_s S hK hP dX13_empty_184 ?_
                      refine c_copyRow_4_1 S hK hP hS (rm_ok (Nat.le_of_ble_eq_true rfl)) hl.1 (Nat.le_of_ble_eq_true rfl) dX13_empty_187 (fun H locs hP hS => ?_)
                      refine lv_iinc (v := (nI (a + 1))) (lv' := [(4, .int ((nI (a + 1)))), (3, .int ((nI bb_56))), (0, .ref (t.2.1 0)), (1, .int ((nI n_))), (2, .int (r 3)), (5, .int ((nI q)))]) hx hb dX13_empty_190 hl (k := 4) rfl (nn_1 rfl) (by decide) rfl (fun ls hl => ?_)
                      refine lv_goto (tgt := 42) hx hb dX13_empty_193 (by decide) ?_
                      exact ih_42 ((a + 1)) (some (bb_56)) _ _ ls (by omega) (by have h := he; rw [lp, p_few] at h; rw [if_pos (show p_fewer a (some bb_56) = true from decide_eq_true c_68)] at h; rw [if_neg (show ¬ p_empP r n_ a = true from fun z => c_169 (of_decide_eq_true z))] at h; exact h) (hb8) hP hS (lv_sub hl [2, 3, 4, 1, 0] rfl)
                    · skip
                      refine lv_iload hx hb dX13_empty_172 (lv_at hl 4 rfl) ?_
                      refine lv_goto (tgt := 178) hx hb dX13_empty_174 (by decide) ?_
                      refine lv_istore_n (lv' := [(3, .int ((nI a))), (0, .ref (t.2.1 0)), (1, .int ((nI n_))), (2, .int (r 3)), (4, .int ((nI a))), (5, .int ((nI q)))]) hx hb dX13_empty_178 rfl hl (by decide) rfl (fun ls hl => ?_)
                      refine lv_aload_n hx hb dX13_empty_179 rfl (lv_at hl 1 rfl) ?_
                      refine mg_aside S hK hP dX13_empty_180 ?_
                      refine lv_aload_n hx hb dX13_empty_183 rfl (lv_at hl 1 rfl) ?_
                      refine mg_s S hK hP dX13_empty_184 ?_
                      refine c_copyRow_4_1 S hK hP hS (rm_ok (Nat.le_of_ble_eq_true rfl)) hl.1 (Nat.le_of_ble_eq_true rfl) dX13_empty_187 (fun H locs hP hS => ?_)
                      refine lv_iinc (v := (nI (a + 1))) (lv' := [(4, .int ((nI (a + 1)))), (3, .int ((nI a))), (0, .ref (t.2.1 0)), (1, .int ((nI n_))), (2, .int (r 3)), (5, .int ((nI q)))]) hx hb dX13_empty_190 hl (k := 4) rfl (nn_1 rfl) (by decide) rfl (fun ls hl => ?_)
                      refine lv_goto (tgt := 42) hx hb dX13_empty_193 (by decide) ?_
                      exact ih_42 ((a + 1)) (some (a)) _ _ ls (by omega) (by have h := he; rw [lp, p_few] at h; rw [if_pos (show p_fewer a (some bb_56) = true from decide_eq_true c_68)] at h; rw [if_pos (show p_empP r n_ a = true from decide_eq_true c_169)] at h; exact h) (fun i hi => by cases hi; omega) hP hS (lv_sub hl [2, 3, 4, 1, 0] rfl)
                  · exact absurd c_82 (by omega)
                | succ j ih =>
                  intro q  r1 H locs ls hkj he2 hk1 hP hS hl
                  have ih_74 := ih
                  refine lv_iload hx hb dX13_empty_74 (lv_at hl 5 rfl) ?_
                  refine lv_aload_n hx hb dX13_empty_76 rfl (lv_at hl 0 rfl) ?_
                  refine mg_s S hK hP dX13_empty_77 ?_
                  refine lv_iconst (v := 0) hx hb dX13_empty_80 (by decide) ?_
                  refine mk_lds S hK hP (0) (by omega) rfl dX13_empty_81 ?_
                  refine kb_ge_n (tgt := 157) (a := q) (b := (pN r)) S rfl ((hk1 0 (by unfold pm; omega)).trans hn) (by omega) (by omega) dX13_empty_82 (by decide) (fun c_82 => ?_) (fun c_82 => ?_)
                  · exact absurd c_82 (by omega)
                  · skip
                    refine lv_aload_n hx hb dX13_empty_85 rfl (lv_at hl 0 rfl) ?_
                    refine mg_s S hK hP dX13_empty_86 ?_
                    refine lv_iload hx hb dX13_empty_89 (lv_at hl 5 rfl) ?_
                    refine lv_iconst (v := 2) hx hb dX13_empty_91 (by decide) ?_
                    refine c_at S (rm_ok (Nat.le_of_ble_eq_true rfl)) hl.1 (q) (2) rfl rfl (Nat.le_of_ble_eq_true rfl) dX13_empty_92 ?_
                    refine lv_iload hx hb dX13_empty_95 (lv_at hl 4 rfl) ?_
                    refine lv_iload hx hb dX13_empty_97 (lv_at hl 5 rfl) ?_
                    refine lv_ishr hx hb dX13_empty_99 ?_
                    refine lv_iconst (v := 1) hx hb dX13_empty_100 (by decide) ?_
                    refine lv_iand hx hb dX13_empty_101 ?_
                    refine lv_iconst (v := 1) hx hb dX13_empty_102 (by decide) ?_
                    refine kb_ne_n (tgt := 110) (a := ((a / 2 ^ q) &&& 1)) (b := 1) S (nn_and (nn_shr (by omega) (by omega)) rfl) rfl (Nat.lt_of_le_of_lt Nat.and_le_right (by omega)) (by omega) dX13_empty_103 (by decide) (fun c_103 => ?_) (fun c_103 => ?_)
                    · skip
                      refine lv_aload_n hx hb dX13_empty_110 rfl (lv_at hl 0 rfl) ?_
                      refine lv_iload hx hb dX13_empty_111 (lv_at hl 5 rfl) ?_
                      refine lv_iconst (v := 2) hx hb dX13_empty_113 (by decide) ?_
                      refine c_its S hK hP (rm_ok (Nat.le_of_ble_eq_true rfl)) hl.1 (q) (2) (by omega) (by omega) rfl rfl (Nat.le_of_ble_eq_true rfl) dX13_empty_114 ?_
                      refine mk_sts S hK hP hS ((16 + 7 * q + 2)) (by omega) rfl dX13_empty_117 (fun H locs hP hS => ?_)
                      rw [up_eta] at hP
                      refine lv_aload_n hx hb dX13_empty_118 rfl (lv_at hl 0 rfl) ?_
                      refine mg_s S hK hP dX13_empty_119 ?_
                      refine lv_iload hx hb dX13_empty_122 (lv_at hl 5 rfl) ?_
                      refine lv_iconst (v := 5) hx hb dX13_empty_124 (by decide) ?_
                      refine c_at S (rm_ok (Nat.le_of_ble_eq_true rfl)) hl.1 (q) (5) rfl rfl (Nat.le_of_ble_eq_true rfl) dX13_empty_125 ?_
                      refine lv_iload hx hb dX13_empty_128 (lv_at hl 4 rfl) ?_
                      refine lv_iload hx hb dX13_empty_130 (lv_at hl 5 rfl) ?_
                      refine lv_ishr hx hb dX13_empty_132 ?_
                      refine lv_iconst (v := 1) hx hb dX13_empty_133 (by decide) ?_
                      refine lv_iand hx hb dX13_empty_134 ?_
                      refine lv_iconst (v := 1) hx hb dX13_empty_135 (by decide) ?_
                      refine kb_ne_n (tgt := 143) (a := ((a / 2 ^ q) &&& 1)) (b := 1) S (nn_and (nn_shr (by omega) (by omega)) rfl) rfl (Nat.lt_of_le_of_lt Nat.and_le_right (by omega)) (by omega) dX13_empty_136 (by decide) (fun c_136 => ?_) (fun c_136 => ?_)
                      · skip
                        refine lv_aload_n hx hb dX13_empty_143 rfl (lv_at hl 0 rfl) ?_
                        refine lv_iload hx hb dX13_empty_144 (lv_at hl 5 rfl) ?_
                        refine lv_iconst (v := 5) hx hb dX13_empty_146 (by decide) ?_
                        refine c_its S hK hP (rm_ok (Nat.le_of_ble_eq_true rfl)) hl.1 (q) (5) (by omega) (by omega) rfl rfl (Nat.le_of_ble_eq_true rfl) dX13_empty_147 ?_
                        refine mk_sts S hK hP hS ((16 + 7 * q + 5)) (by omega) rfl dX13_empty_150 (fun H locs hP hS => ?_)
                        rw [up_eta] at hP
                        refine lv_iinc (v := (nI (q + 1))) (lv' := [(5, .int ((nI (q + 1)))), (0, .ref (t.2.1 0)), (1, .int ((nI n_))), (2, .int (r 3)), (3, .int ((oi (some bb_56)))), (4, .int ((nI a)))]) hx hb dX13_empty_151 hl (k := 5) rfl (nn_1 rfl) (by decide) rfl (fun ls hl => ?_)
                        refine lv_goto (tgt := 74) hx hb dX13_empty_154 (by decide) ?_
                        exact ih_74 ((q + 1)) _ _ _ ls (by omega) (by have h := he2; rw [lp, p_clr1, if_neg c_103] at h; exact h) (hk1) hP hS (lv_sub hl [1, 2, 3, 4, 5, 0] rfl)
                      · exact absurd c_136 c_103
                    · skip
                      refine lv_iconst (v := 0) hx hb dX13_empty_106 (by decide) ?_
                      refine lv_goto (tgt := 117) hx hb dX13_empty_107 (by decide) ?_
                      refine mk_sts S hK hP hS ((16 + 7 * q + 2)) (by omega) rfl dX13_empty_117 (fun H locs hP hS => ?_)
                      refine lv_aload_n hx hb dX13_empty_118 rfl (lv_at hl 0 rfl) ?_
                      refine mg_s S hK hP dX13_empty_119 ?_
                      refine lv_iload hx hb dX13_empty_122 (lv_at hl 5 rfl) ?_
                      refine lv_iconst (v := 5) hx hb dX13_empty_124 (by decide) ?_
                      refine c_at S (rm_ok (Nat.le_of_ble_eq_true rfl)) hl.1 (q) (5) rfl rfl (Nat.le_of_ble_eq_true rfl) dX13_empty_125 ?_
                      refine lv_iload hx hb dX13_empty_128 (lv_at hl 4 rfl) ?_
                      refine lv_iload hx hb dX13_empty_130 (lv_at hl 5 rfl) ?_
                      refine lv_ishr hx hb dX13_empty_132 ?_
                      refine lv_iconst (v := 1) hx hb dX13_empty_133 (by decide) ?_
                      refine lv_iand hx hb dX13_empty_134 ?_
                      refine lv_iconst (v := 1) hx hb dX13_empty_135 (by decide) ?_
                      refine kb_ne_n (tgt := 143) (a := ((a / 2 ^ q) &&& 1)) (b := 1) S (nn_and (nn_shr (by omega) (by omega)) rfl) rfl (Nat.lt_of_le_of_lt Nat.and_le_right (by omega)) (by omega) dX13_empty_136 (by decide) (fun c_136 => ?_) (fun c_136 => ?_)
                      · exact absurd c_103 c_136
                      · skip
                        refine lv_iconst (v := 0) hx hb dX13_empty_139 (by decide) ?_
                        refine lv_goto (tgt := 150) hx hb dX13_empty_140 (by decide) ?_
                        refine mk_sts S hK hP hS ((16 + 7 * q + 5)) (by omega) rfl dX13_empty_150 (fun H locs hP hS => ?_)
                        refine lv_iinc (v := (nI (q + 1))) (lv' := [(5, .int ((nI (q + 1)))), (0, .ref (t.2.1 0)), (1, .int ((nI n_))), (2, .int (r 3)), (3, .int ((oi (some bb_56)))), (4, .int ((nI a)))]) hx hb dX13_empty_151 hl (k := 5) rfl (nn_1 rfl) (by decide) rfl (fun ls hl => ?_)
                        refine lv_goto (tgt := 74) hx hb dX13_empty_154 (by decide) ?_
                        exact ih_74 ((q + 1)) _ _ _ ls (by omega) (by have h := he2; rw [lp, p_clr1, if_pos c_103] at h; exact h) (kp_clear hk1 (by omega)) hP hS (lv_sub hl [1, 2, 3, 4, 5, 0] rfl)
              exact lp_74 (pN r) 0 _ _ _ ls (by omega) (rfl) (kp.rf) hP hS (lv_sub hl [1, 2, 3, 4, 5, 0] rfl)
    exact lp_42 (2 ^ pN r) 0 none _ _ ls (by omega) (rfl) (fun _ h => by cases h) hP hS (lv_sub hl [3, 4, 2, 1, 0] rfl)
  · skip
    refine lv_aload_n hx hb dX13_empty_12 rfl (lv_at hl 0 rfl) ?_
    refine lv_ldc (v := (-1000001)) hx hb hown (hts _ q1305) dX13_empty_13 ?_
    refine c_finds S hK hP hS (rm_ok (Nat.le_of_ble_eq_true rfl)) hl.1 (0) (by decide) (by decide) (Nat.le_of_ble_eq_true rfl) dX13_empty_15 (fun H locs hP hS => ?_)
    exact kk_iretW S hr hlk hS (by simp only [o_empty, c_9, reduceIte, and_self, oF, oK, fx]; exact mW_a hP) (by simp only [o_empty, c_9, reduceIte, and_self, oF, oK, fnd] <;> first | rfl | decide) dX13_empty_18
section MC
variable {p : Program} {l : Launch} {e : Env} {R : Room} {s : State} {m : MethodId} {args : Array Value} {below : List Frame} {meth : Method} {c : Code} {H H0 : Heap} {locs : List Loc} {cells slots : Nat} {Q : State → Prop}
variable {cc : ByteArray} {pc nL : Nat} {ls : Array Slot} {rest : List Value} {t : MT} {r : Rw} {x : Nat → Rw}


theorem c_isSheet (S : CallFix p m c cc nL s args lw_all RX13) (hR : kRm R 1 cells slots) (hsz : ls.size = nL) {v : Int32} (hrest : (rest.map fun v => v.category).sum ≤ 8) (hdg : decode cc pc = .ok (.invokestatic 283, 3)) (kk : W p l e R s m args below meth c H locs cells slots Q (F0 m (pc + 3) ls (.int (b2i (0 ≤ v ∧ v < 4)) :: rest))) : W p l e R s m args below meth c H locs cells slots Q (F0 m pc ls (.int v :: rest)) := by
  exact kk_Ri (W.runS (As := [.int v]) (rest := rest) S (k_isSheet l v) (va_cwS 1 S.2.2.2.2 (lw_S q1540 q1541 q117 q1542) rfl rfl rfl (by decide +kernel) ⟨hR.1, by have := hR.2.1; show 8 + (1 + 11) + 38 * 0 ≤ R.locals; omega⟩) ⟨kk_blindT, fun U hU hW => ⟨rfl, trivial⟩⟩ rfl rfl hsz rfl (lv_room hrest) hdg ⟨hR.2.2.1, hR.2.2.2⟩) kk

end MC
set_option maxHeartbeats 4000000 in
set_option maxRecDepth 100000 in
theorem k_isTold (l : Launch) (t : MT) (r : Rw) (x : Nat → Rw) (i : Nat) (pl : Nat) (b : Nat) (n : Nat) (hi : i < 4) (hpl : pl < 82) (hV : pV b r) (hb : b < 2 ^ 29) (hlen : n ≤ 40) (hsn : x 7 i = nI n) : Met l yX13_isTold (ws_ yX13_isTold cX13_isTold 6 (some .boolean)) (rmF 5) (va_Pc [.ref (t.2.1 0), .int (nI i), .int (nI pl)] (fun U => mK t U ∧ mW t r x U.heap)) (kW (some (.int (b2i (p_ist (fun u => x 8 (40 * i + u)) n pl r = true)))) (mW t (r) (va_up x 3 r)) (mA t)) 0 0 (mA t) := by
  refine kk_start (by decide) (Nat.le_of_ble_eq_true rfl) ?_
  intro p e s m below meth c S hr hlk hin hB ls hl
  obtain ⟨hK, hP⟩ := hB
  have hx := S.1
  have hb := S.2.1
  have hown : s.vm.findClass RX13 = some m.cls := S.2.2.2.1
  have hts := S.2.2.2.2
  have hS : va_S (mA t) s.heap s.heap [] := va_S.rf
  have hl : lv_has ls 6 [(0, .ref (t.2.1 0)), (1, .int ((nI i))), (2, .int ((nI pl)))] := hl
  refine lv_aload_n hx hb dX13_isTold_0 rfl (lv_at hl 0 rfl) ?_
  refine mg_s S hK hP dX13_isTold_1 ?_
  refine lv_aload_n hx hb dX13_isTold_4 rfl (lv_at hl 0 rfl) ?_
  refine mg_aside S hK hP dX13_isTold_5 ?_
  refine c_copyRow_1_4 S hK hP hS (rm_ok (Nat.le_of_ble_eq_true rfl)) hl.1 (Nat.le_of_ble_eq_true rfl) dX13_isTold_8 (fun H locs hP hS => ?_)
  refine lv_iconst (v := 1) hx hb dX13_isTold_11 (by decide) ?_
  refine lv_istore_n (lv' := [(3, .int (1)), (0, .ref (t.2.1 0)), (1, .int ((nI i))), (2, .int ((nI pl)))]) hx hb dX13_isTold_12 rfl hl (by decide) rfl (fun ls hl => ?_)
  refine lv_iconst (v := 0) hx hb dX13_isTold_13 (by decide) ?_
  refine lv_istore (lv' := [(4, .int (0)), (3, .int (1)), (0, .ref (t.2.1 0)), (1, .int ((nI i))), (2, .int ((nI pl)))]) hx hb dX13_isTold_14 hl (by decide) rfl (fun ls hl => ?_)
  have lp_16 : ∀ (j k : Nat) (q : Bool) (r1 : Rw) (H : Heap) (locs : List Loc) (ls : Array Slot), k + j = n → ((q && p_tf (fun u => x 8 (40 * i + u)) pl j k r1) = p_ist (fun u => x 8 (40 * i + u)) n pl r) → (pV (b + k) r1) → mW t (r1) ((va_up x 3 r)) H → va_S (mA t) s.heap H locs → lv_has ls 6 [(0, .ref (t.2.1 0)), (1, .int ((nI i))), (2, .int ((nI pl))), (3, .int ((b2i (q = true)))), (4, .int ((nI k)))] → W p l e (rmF 5) s m ([.ref (t.2.1 0), .int (nI i), .int (nI pl)] : List Value).toArray below meth c H locs 0 0 (MQ below (kW (some (.int (b2i (p_ist (fun u => x 8 (40 * i + u)) n pl r = true)))) (mW t (r) (va_up x 3 r)) (mA t)) ([.ref (t.2.1 0), .int (nI i), .int (nI pl)] : List Value).toArray s 0 0 (mA t)) (F0 m 16 ls []) := by
    intro j
    induction j with
    | zero =>
      intro k q r1 H locs ls hkj he hV1 hP hS hl
      refine lv_iload hx hb dX13_isTold_16 (lv_at hl 4 rfl) ?_
      refine lv_aload_n hx hb dX13_isTold_18 rfl (lv_at hl 0 rfl) ?_
      refine mg_sizes S hK hP dX13_isTold_19 ?_
      refine lv_iload_n hx hb dX13_isTold_22 rfl (lv_at hl 1 rfl) ?_
      refine mk_ld7 S hK hP (i) (by omega) rfl dX13_isTold_23 ?_
      refine kb_ge_n (tgt := 78) (a := k) (b := n) S rfl hsn (by omega) (by omega) dX13_isTold_24 (by decide) (fun c_24 => ?_) (fun c_24 => ?_)
      · skip
        refine lv_aload_n hx hb dX13_isTold_78 rfl (lv_at hl 0 rfl) ?_
        refine mg_aside S hK hP dX13_isTold_79 ?_
        refine lv_aload_n hx hb dX13_isTold_82 rfl (lv_at hl 0 rfl) ?_
        refine mg_s S hK hP dX13_isTold_83 ?_
        refine c_copyRow_4_1 S hK hP hS (rm_ok (Nat.le_of_ble_eq_true rfl)) hl.1 (Nat.le_of_ble_eq_true rfl) dX13_isTold_86 (fun H locs hP hS => ?_)
        refine lv_iload_n hx hb dX13_isTold_89 rfl (lv_at hl 3 rfl) ?_
        exact kk_zretW S hr hlk hS (hP) (by rw [← he]; simp [p_tf]) dX13_isTold_90
      · exact absurd c_24 (by omega)
    | succ j ih =>
      intro k q r1 H locs ls hkj he hV1 hP hS hl
      have ih_16 := ih
      refine lv_iload hx hb dX13_isTold_16 (lv_at hl 4 rfl) ?_
      refine lv_aload_n hx hb dX13_isTold_18 rfl (lv_at hl 0 rfl) ?_
      refine mg_sizes S hK hP dX13_isTold_19 ?_
      refine lv_iload_n hx hb dX13_isTold_22 rfl (lv_at hl 1 rfl) ?_
      refine mk_ld7 S hK hP (i) (by omega) rfl dX13_isTold_23 ?_
      refine kb_ge_n (tgt := 78) (a := k) (b := n) S rfl hsn (by omega) (by omega) dX13_isTold_24 (by decide) (fun c_24 => ?_) (fun c_24 => ?_)
      · exact absurd c_24 (by omega)
      · skip
        refine lv_iload_n hx hb dX13_isTold_27 rfl (lv_at hl 3 rfl) ?_
        refine kb_ifeq (tgt := 78) S dX13_isTold_28 (by decide) (fun c_28 => ?_) (fun c_28 => ?_)
        · skip
          refine lv_aload_n hx hb dX13_isTold_78 rfl (lv_at hl 0 rfl) ?_
          refine mg_aside S hK hP dX13_isTold_79 ?_
          refine lv_aload_n hx hb dX13_isTold_82 rfl (lv_at hl 0 rfl) ?_
          refine mg_s S hK hP dX13_isTold_83 ?_
          refine c_copyRow_4_1 S hK hP hS (rm_ok (Nat.le_of_ble_eq_true rfl)) hl.1 (Nat.le_of_ble_eq_true rfl) dX13_isTold_86 (fun H locs hP hS => ?_)
          refine lv_iload_n hx hb dX13_isTold_89 rfl (lv_at hl 3 rfl) ?_
          exact kk_zretW S hr hlk hS (hP) (by rw [← he]; simp [c_28]) dX13_isTold_90
        · skip
          refine lv_aload_n hx hb dX13_isTold_31 rfl (lv_at hl 0 rfl) ?_
          refine mg_numbers S hK hP dX13_isTold_32 ?_
          refine lv_bipush (v := 40) hx hb dX13_isTold_35 (by decide) ?_
          refine lv_iload_n hx hb dX13_isTold_37 rfl (lv_at hl 1 rfl) ?_
          refine lv_imul hx hb dX13_isTold_38 ?_
          refine lv_iload hx hb dX13_isTold_39 (lv_at hl 4 rfl) ?_
          refine lv_iadd hx hb dX13_isTold_41 ?_
          refine mk_ld8 S hK hP (((40 * i) + k)) (by omega) (nn_add (nn_mul rfl rfl) rfl) dX13_isTold_42 ?_
          refine lv_istore (lv' := [(5, .int ((va_up x 3 r) 8 (((40 * i) + k)))), (0, .ref (t.2.1 0)), (1, .int ((nI i))), (2, .int ((nI pl))), (3, .int ((b2i (q = true)))), (4, .int ((nI k)))]) hx hb dX13_isTold_43 hl (by decide) rfl (fun ls hl => ?_)
          refine lv_iload hx hb dX13_isTold_45 (lv_at hl 0 rfl) ?_
          refine lv_iconst (v := (-1)) hx hb dX13_isTold_47 (by decide) ?_
          refine lv_icmp_eq (tgt := 62) hx hb dX13_isTold_48 (by decide) (fun c_48 => ?_) (fun c_48 => ?_)
          · skip
            refine lv_iconst (v := 1) hx hb dX13_isTold_62 (by decide) ?_
            refine lv_goto (tgt := 67) hx hb dX13_isTold_63 (by decide) ?_
            refine lv_istore_n (lv' := [(3, .int (1)), (5, .int ((va_up x 3 r) 8 (((40 * i) + k)))), (0, .ref (t.2.1 0)), (1, .int ((nI i))), (2, .int ((nI pl))), (4, .int ((nI k)))]) hx hb dX13_isTold_67 rfl hl (by decide) rfl (fun ls hl => ?_)
            refine lv_aload_n hx hb dX13_isTold_68 rfl (lv_at hl 2 rfl) ?_
            refine c_day S hK hP hS (rm_ok (Nat.le_of_ble_eq_true rfl)) hl.1 ((b + k)) hV1 (by omega) (Nat.le_of_ble_eq_true rfl) dX13_isTold_69 (fun H locs hP hS => ?_)
            refine lv_iinc (v := (nI (k + 1))) (lv' := [(4, .int ((nI (k + 1)))), (3, .int (1)), (5, .int ((va_up x 3 r) 8 (((40 * i) + k)))), (0, .ref (t.2.1 0)), (1, .int ((nI i))), (2, .int ((nI pl)))]) hx hb dX13_isTold_72 hl (k := 5) rfl (nn_1 rfl) (by decide) rfl (fun ls hl => ?_)
            refine lv_goto (tgt := 16) hx hb dX13_isTold_75 (by decide) ?_
            exact ih_16 ((k + 1)) true _ _ _ ls (by omega) (by have h := he; rw [c_28, p_tf, if_pos (show x 8 (40 * i + k) = -1 ∨ x 8 (40 * i + k) = r1 pl from Or.inl c_48)] at h; exact h) (pV_day (b := b + k) hV1 (by omega)) hP hS (lv_sub hl [3, 4, 5, 1, 0] rfl)
          · skip
            refine lv_iload hx hb dX13_isTold_51 (lv_at hl 0 rfl) ?_
            refine lv_aload_n hx hb dX13_isTold_53 rfl (lv_at hl 1 rfl) ?_
            refine mg_s S hK hP dX13_isTold_54 ?_
            refine lv_iload_n hx hb dX13_isTold_57 rfl (lv_at hl 3 rfl) ?_
            refine mk_lds S hK hP (pl) (by omega) rfl dX13_isTold_58 ?_
            refine lv_icmp_ne (tgt := 66) hx hb dX13_isTold_59 (by decide) (fun c_59 => ?_) (fun c_59 => ?_)
            · skip
              refine lv_iconst (v := 0) hx hb dX13_isTold_66 (by decide) ?_
              refine lv_istore_n (lv' := [(3, .int (0)), (5, .int ((va_up x 3 r) 8 (((40 * i) + k)))), (0, .ref (t.2.1 0)), (1, .int ((nI i))), (2, .int ((nI pl))), (4, .int ((nI k)))]) hx hb dX13_isTold_67 rfl hl (by decide) rfl (fun ls hl => ?_)
              refine lv_aload_n hx hb dX13_isTold_68 rfl (lv_at hl 2 rfl) ?_
              refine c_day S hK hP hS (rm_ok (Nat.le_of_ble_eq_true rfl)) hl.1 ((b + k)) hV1 (by omega) (Nat.le_of_ble_eq_true rfl) dX13_isTold_69 (fun H locs hP hS => ?_)
              refine lv_iinc (v := (nI (k + 1))) (lv' := [(4, .int ((nI (k + 1)))), (3, .int (0)), (5, .int ((va_up x 3 r) 8 (((40 * i) + k)))), (0, .ref (t.2.1 0)), (1, .int ((nI i))), (2, .int ((nI pl)))]) hx hb dX13_isTold_72 hl (k := 5) rfl (nn_1 rfl) (by decide) rfl (fun ls hl => ?_)
              refine lv_goto (tgt := 16) hx hb dX13_isTold_75 (by decide) ?_
              exact ih_16 ((k + 1)) false _ _ _ ls (by omega) (by have h := he; rw [c_28, p_tf, if_neg (fun z => z.elim c_48 c_59)] at h; exact h) (pV_day (b := b + k) hV1 (by omega)) hP hS (lv_sub hl [3, 4, 5, 1, 0] rfl)
            · skip
              refine lv_iconst (v := 1) hx hb dX13_isTold_62 (by decide) ?_
              refine lv_goto (tgt := 67) hx hb dX13_isTold_63 (by decide) ?_
              refine lv_istore_n (lv' := [(3, .int (1)), (5, .int ((va_up x 3 r) 8 (((40 * i) + k)))), (0, .ref (t.2.1 0)), (1, .int ((nI i))), (2, .int ((nI pl))), (4, .int ((nI k)))]) hx hb dX13_isTold_67 rfl hl (by decide) rfl (fun ls hl => ?_)
              refine lv_aload_n hx hb dX13_isTold_68 rfl (lv_at hl 2 rfl) ?_
              refine c_day S hK hP hS (rm_ok (Nat.le_of_ble_eq_true rfl)) hl.1 ((b + k)) hV1 (by omega) (Nat.le_of_ble_eq_true rfl) dX13_isTold_69 (fun H locs hP hS => ?_)
              refine lv_iinc (v := (nI (k + 1))) (lv' := [(4, .int ((nI (k + 1)))), (3, .int (1)), (5, .int ((va_up x 3 r) 8 (((40 * i) + k)))), (0, .ref (t.2.1 0)), (1, .int ((nI i))), (2, .int ((nI pl)))]) hx hb dX13_isTold_72 hl (k := 5) rfl (nn_1 rfl) (by decide) rfl (fun ls hl => ?_)
              refine lv_goto (tgt := 16) hx hb dX13_isTold_75 (by decide) ?_
              exact ih_16 ((k + 1)) true _ _ _ ls (by omega) (by have h := he; rw [c_28, p_tf, if_pos (show x 8 (40 * i + k) = -1 ∨ x 8 (40 * i + k) = r1 pl from Or.inr c_59)] at h; exact h) (pV_day (b := b + k) hV1 (by omega)) hP hS (lv_sub hl [3, 4, 5, 1, 0] rfl)
  exact lp_16 n 0 true _ _ _ ls (by omega) (rfl) (hV) hP hS (lv_sub hl [2, 3, 4, 1, 0] rfl)
section MC
variable {p : Program} {l : Launch} {e : Env} {R : Room} {s : State} {m : MethodId} {args : Array Value} {below : List Frame} {meth : Method} {c : Code} {H H0 : Heap} {locs : List Loc} {cells slots : Nat} {Q : State → Prop}
variable {cc : ByteArray} {pc nL : Nat} {ls : Array Slot} {rest : List Value} {t : MT} {r : Rw} {x : Nat → Rw}
theorem c_isTold (S : CallFix p m c cc nL s args lw_all RX13) (hK : mK t s) (hP : mW t r x H) (hS : va_S (mA t) H0 H locs) (hR : kRm R 6 cells slots) (hsz : ls.size = nL) (i : Nat) (pl : Nat) (b : Nat) (n : Nat) (hi : i < 4) (hpl : pl < 82) (hV : pV b r) (hb : b < 2 ^ 29) (hlen : n ≤ 40) (hsn : x 7 i = nI n) {i0 : Int32} (e0 : i0 = nI i) {i1 : Int32} (e1 : i1 = nI pl) (hrest : (rest.map fun v => v.category).sum ≤ 8) (hdg : decode cc pc = .ok (.invokevirtual 184, 3)) (kk : ∀ (H1 : Heap) (locs1 : List Loc), mW t (r) (va_up x 3 r) H1 → va_S (mA t) H0 H1 locs1 → W p l e R s m args below meth c H1 locs1 cells slots Q (F0 m (pc + 3) ls (.int (b2i (p_ist (fun u => x 8 (40 * i + u)) n pl r = true)) :: rest))) : W p l e R s m args below meth c H locs cells slots Q (F0 m pc ls (.int i1 :: .int i0 :: .ref (t.2.1 0) :: rest)) := by
  subst e0
  subst e1
  exact kk_Wi (W.runV (As := [.int (nI i), .int (nI pl)]) (rest := rest) S (k_isTold l t r x i pl b n hi hpl hV hb hlen hsn) (cwV 2 S.2.2.2.2 (lw_V q1548 q1550 qs84 q117 q1551) rfl rfl rfl (by decide +kernel) ⟨hR.1, by have := hR.2.1; show 8 + (6 + 11) + 38 * 5 ≤ R.locals; omega⟩) ⟨m_blind, m_recv hK hP, m_pre hK hP⟩ rfl rfl hsz rfl (lv_room hrest) hdg ⟨hR.2.2.1, hR.2.2.2⟩) hS (fun _ h => h) (fun _ h => h) (fun H1 locs1 hB _ _ hS => kk H1 locs1 hB hS)
end MC
set_option maxHeartbeats 4000000 in
set_option maxRecDepth 100000 in
theorem k_wants (l : Launch) (t : MT) (r : Rw) (x : Nat → Rw) (v : Int32) : Met l yX13_wants (ws_ yX13_wants cX13_wants 2 (some .int)) (rmF 1) (va_Pc [.ref (t.2.1 0), .int v] (fun U => mK t U ∧ mW t r x U.heap)) (kR (some (.int (wI (p_w (mSv x) v))))) 0 0 (fun _ => False) := by
  refine kk_start (by decide) (Nat.le_of_ble_eq_true rfl) ?_
  intro p e s m below meth c S hr hlk hin hB ls hl
  obtain ⟨hK, hP⟩ := hB
  have hx := S.1
  have hb := S.2.1
  have hown : s.vm.findClass RX13 = some m.cls := S.2.2.2.1
  have hts := S.2.2.2.2
  have hl : lv_has ls 2 [(0, .ref (t.2.1 0)), (1, .int (v))] := hl
  refine lv_iload_n hx hb dX13_wants_0 rfl (lv_at hl 1 rfl) ?_
  refine c_isSheet S (rm_ok (Nat.le_of_ble_eq_true rfl)) hl.1 (Nat.le_of_ble_eq_true rfl) dX13_wants_1 ?_
  refine kb_ifne (tgt := 12) S dX13_wants_4 (by decide) (fun c_4 => ?_) (fun c_4 => ?_)
  · skip
    obtain ⟨v_, hv_, rfl⟩ := nat_of_lt (n := 4) (rfl) (by omega) c_4
    have hcl_v_ := nI_clamp (n := v_) (by omega)
    refine lv_aload_n hx hb dX13_wants_12 rfl (lv_at hl 0 rfl) ?_
    refine mg_bitsOf S hK hP dX13_wants_13 ?_
    refine lv_iload_n hx hb dX13_wants_16 rfl (lv_at hl 1 rfl) ?_
    refine mk_ld6 S hK hP (v_) (by omega) rfl dX13_wants_17 ?_
    refine lv_if_ge (tgt := 27) hx hb dX13_wants_18 (by decide) (fun c_18 => ?_) (fun c_18 => ?_)
    · skip
      refine lv_iconst (v := 0) hx hb dX13_wants_27 (by decide) ?_
      exact kk_iretR S hr hlk rfl rfl (by rw [p_w, if_pos c_4, hcl_v_, mSv, if_neg (Int32.not_lt.mpr c_18)]; rfl) dX13_wants_28
    · skip
      refine lv_ldcw (v := (-1000006)) hx hb hown (hts _ q1543) dX13_wants_21 ?_
      refine lv_goto (tgt := 28) hx hb dX13_wants_24 (by decide) ?_
      exact kk_iretR S hr hlk rfl rfl (by rw [p_w, if_pos c_4, hcl_v_, mSv, if_pos (Int32.not_le.mp c_18)]; decide) dX13_wants_28
  · skip
    refine lv_ldc (v := (-1000001)) hx hb hown (hts _ q1305) dX13_wants_7 ?_
    refine lv_goto (tgt := 28) hx hb dX13_wants_9 (by decide) ?_
    exact kk_iretR S hr hlk rfl rfl (by rw [p_w, if_neg c_4]; decide) dX13_wants_28
section MC
variable {p : Program} {l : Launch} {e : Env} {R : Room} {s : State} {m : MethodId} {args : Array Value} {below : List Frame} {meth : Method} {c : Code} {H H0 : Heap} {locs : List Loc} {cells slots : Nat} {Q : State → Prop}
variable {cc : ByteArray} {pc nL : Nat} {ls : Array Slot} {rest : List Value} {t : MT} {r : Rw} {x : Nat → Rw}
theorem c_wants (S : CallFix p m c cc nL s args lw_all RX13) (hK : mK t s) (hP : mW t r x H) (hR : kRm R 2 cells slots) (hsz : ls.size = nL) {v : Int32} (hrest : (rest.map fun v => v.category).sum ≤ 8) (hdg : decode cc pc = .ok (.invokevirtual 190, 3)) (kk : W p l e R s m args below meth c H locs cells slots Q (F0 m (pc + 3) ls (.int (wI (p_w (mSv x) v)) :: rest))) : W p l e R s m args below meth c H locs cells slots Q (F0 m pc ls (.int v :: .ref (t.2.1 0) :: rest)) := by
  exact kk_Ri (W.runV (As := [.int v]) (rest := rest) S (k_wants l t r x v) (cwV 1 S.2.2.2.2 (lw_V q1536 q1538 qs82 q117 q1539) rfl rfl rfl (by decide +kernel) ⟨hR.1, by have := hR.2.1; show 8 + (2 + 11) + 38 * 1 ≤ R.locals; omega⟩) ⟨m_blind, m_recv hK hP, m_pre hK hP⟩ rfl rfl hsz rfl (lv_room hrest) hdg ⟨hR.2.2.1, hR.2.2.2⟩) kk
end MC
set_option maxHeartbeats 4000000 in
set_option maxRecDepth 100000 in
theorem k_wantsFor (l : Launch) (t : MT) (r : Rw) (x : Nat → Rw) (v : Int32) (a : Int32) : Met l yX13_wantsFor (ws_ yX13_wantsFor cX13_wantsFor 3 (some .int)) (rmF 2) (va_Pc [.ref (t.2.1 0), .int v, .int a] (fun U => mK t U ∧ mW t r x U.heap)) (kR (some (.int (wI (p_wf (mSv x) r v a))))) 0 0 (fun _ => False) := by
  refine kk_start (by decide) (Nat.le_of_ble_eq_true rfl) ?_
  intro p e s m below meth c S hr hlk hin hB ls hl
  obtain ⟨hK, hP⟩ := hB
  have hx := S.1
  have hb := S.2.1
  have hown : s.vm.findClass RX13 = some m.cls := S.2.2.2.1
  have hts := S.2.2.2.2
  have hl : lv_has ls 3 [(0, .ref (t.2.1 0)), (1, .int (v)), (2, .int (a))] := hl
  refine lv_aload_n hx hb dX13_wantsFor_0 rfl (lv_at hl 0 rfl) ?_
  refine lv_iload_n hx hb dX13_wantsFor_1 rfl (lv_at hl 1 rfl) ?_
  refine c_wants S hK hP (rm_ok (Nat.le_of_ble_eq_true rfl)) hl.1 (Nat.le_of_ble_eq_true rfl) dX13_wantsFor_2 ?_
  refine lv_if_eq (tgt := 16) hx hb dX13_wantsFor_5 (by decide) (fun c_5 => ?_) (fun c_5 => ?_)
  · skip
    refine lv_aload_n hx hb dX13_wantsFor_16 rfl (lv_at hl 0 rfl) ?_
    refine lv_iload_n hx hb dX13_wantsFor_17 rfl (lv_at hl 2 rfl) ?_
    refine c_isCask S hK hP (rm_ok (Nat.le_of_ble_eq_true rfl)) hl.1 (Nat.le_of_ble_eq_true rfl) dX13_wantsFor_18 ?_
    refine kb_ifeq (tgt := 28) S dX13_wantsFor_21 (by decide) (fun c_21 => ?_) (fun c_21 => ?_)
    · skip
      refine lv_ldc (v := (-1000001)) hx hb hown (hts _ q1305) dX13_wantsFor_28 ?_
      exact kk_iretR S hr hlk rfl rfl (by rw [p_wf_w, (wI_0 (fun _ => p_w_lt)).mp c_5]; simp only [c_21, reduceIte, and_self]; decide) dX13_wantsFor_30
    · skip
      refine lv_iconst (v := 0) hx hb dX13_wantsFor_24 (by decide) ?_
      refine lv_goto (tgt := 30) hx hb dX13_wantsFor_25 (by decide) ?_
      exact kk_iretR S hr hlk rfl rfl (by rw [p_wf_w, (wI_0 (fun _ => p_w_lt)).mp c_5]; simp only [c_21, reduceIte, and_self]; rfl) dX13_wantsFor_30
  · skip
    refine lv_aload_n hx hb dX13_wantsFor_8 rfl (lv_at hl 0 rfl) ?_
    refine lv_iload_n hx hb dX13_wantsFor_9 rfl (lv_at hl 1 rfl) ?_
    refine c_wants S hK hP (rm_ok (Nat.le_of_ble_eq_true rfl)) hl.1 (Nat.le_of_ble_eq_true rfl) dX13_wantsFor_10 ?_
    refine lv_goto (tgt := 30) hx hb dX13_wantsFor_13 (by decide) ?_
    exact kk_iretR S hr hlk rfl rfl (by obtain ⟨z, hz, -⟩ := wI_s (fun _ => p_w_lt) c_5; rw [p_wf_w, hz]) dX13_wantsFor_30
section MC
variable {p : Program} {l : Launch} {e : Env} {R : Room} {s : State} {m : MethodId} {args : Array Value} {below : List Frame} {meth : Method} {c : Code} {H H0 : Heap} {locs : List Loc} {cells slots : Nat} {Q : State → Prop}
variable {cc : ByteArray} {pc nL : Nat} {ls : Array Slot} {rest : List Value} {t : MT} {r : Rw} {x : Nat → Rw}
theorem c_wantsFor (S : CallFix p m c cc nL s args lw_all RX13) (hK : mK t s) (hP : mW t r x H) (hR : kRm R 3 cells slots) (hsz : ls.size = nL) {v : Int32} {a : Int32} (hrest : (rest.map fun v => v.category).sum ≤ 8) (hdg : decode cc pc = .ok (.invokevirtual 193, 3)) (kk : W p l e R s m args below meth c H locs cells slots Q (F0 m (pc + 3) ls (.int (wI (p_wf (mSv x) r v a)) :: rest))) : W p l e R s m args below meth c H locs cells slots Q (F0 m pc ls (.int a :: .int v :: .ref (t.2.1 0) :: rest)) := by
  exact kk_Ri (W.runV (As := [.int v, .int a]) (rest := rest) S (k_wantsFor l t r x v a) (cwV 2 S.2.2.2.2 (lw_V q1532 q1534 qs81 q117 q1535) rfl rfl rfl (by decide +kernel) ⟨hR.1, by have := hR.2.1; show 8 + (3 + 11) + 38 * 2 ≤ R.locals; omega⟩) ⟨m_blind, m_recv hK hP, m_pre hK hP⟩ rfl rfl hsz rfl (lv_room hrest) hdg ⟨hR.2.2.1, hR.2.2.2⟩) kk
end MC
set_option maxHeartbeats 4000000 in
set_option maxRecDepth 100000 in
theorem k_findsFits (l : Launch) (t : MT) (r : Rw) (x : Nat → Rw) (i : Nat) (k : Nat) (b : Nat) (n : Nat) (hi : i < 4) (hk : k < 8) (hV : pV b r) (hb : b ≤ 99999) (hlen : n ≤ 40) (hsn : x 7 i = nI n) : Met l yX13_findsFits (ws_ yX13_findsFits cX13_findsFits 5 none) (rmF 6) (va_Pc [.ref (t.2.1 0), .int (nI i), .int (nI k)] (fun U => mK t U ∧ mW t r x U.heap)) (kW none (fun H => ∃ f, mW t (r) (va_up (va_up x 9 (upd (upd (x 9) 2 (p_fit (p_fitP (fun u => x 8 (40 * i + u)) n r k) 101 (0, x 9 3)).1) 3 (p_fit (p_fitP (fun u => x 8 (40 * i + u)) n r k) 101 (0, x 9 3)).2)) 3 f) H) (mA t)) 0 0 (mA t) := by
  refine kk_start (by decide) (Nat.le_of_ble_eq_true rfl) ?_
  intro p e s m below meth c S hr hlk hin hB ls hl
  obtain ⟨hK, hP⟩ := hB
  have hx := S.1
  have hb := S.2.1
  have hown : s.vm.findClass RX13 = some m.cls := S.2.2.2.1
  have hts := S.2.2.2.2
  have hS : va_S (mA t) s.heap s.heap [] := va_S.rf
  have hl : lv_has ls 5 [(0, .ref (t.2.1 0)), (1, .int ((nI i))), (2, .int ((nI k)))] := hl
  refine lv_aload_n hx hb dX13_findsFits_0 rfl (lv_at hl 0 rfl) ?_
  refine lv_iload_n hx hb dX13_findsFits_1 rfl (lv_at hl 2 rfl) ?_
  refine lv_iconst (v := 2) hx hb dX13_findsFits_2 (by decide) ?_
  refine c_its S hK hP (rm_ok (Nat.le_of_ble_eq_true rfl)) hl.1 (k) (2) (by omega) (by omega) rfl rfl (Nat.le_of_ble_eq_true rfl) dX13_findsFits_3 ?_
  refine lv_istore_n (lv' := [(3, .int (r (16 + 7 * k + 2))), (0, .ref (t.2.1 0)), (1, .int ((nI i))), (2, .int ((nI k)))]) hx hb dX13_findsFits_6 rfl hl (by decide) rfl (fun ls hl => ?_)
  refine lv_aload_n hx hb dX13_findsFits_7 rfl (lv_at hl 1 rfl) ?_
  refine lv_iconst (v := 0) hx hb dX13_findsFits_8 (by decide) ?_
  refine mp_fitting S hK hP hS dX13_findsFits_9 (fun H locs hP hS => ?_)
  refine lv_bipush (v := 100) hx hb dX13_findsFits_12 (by decide) ?_
  refine lv_istore (lv' := [(4, .int (100)), (3, .int (r (16 + 7 * k + 2))), (0, .ref (t.2.1 0)), (1, .int ((nI i))), (2, .int ((nI k)))]) hx hb dX13_findsFits_14 hl (by decide) rfl (fun ls hl => ?_)
  have lp_16 : ∀ (j : Nat) (cn : Int32) (le : Int32) (r1 : Rw) (x1 : Nat → Rw) (H : Heap) (locs : List Loc) (ls : Array Slot), (j ≤ 101) → (p_fit (p_fitP (fun u => x 8 (40 * i + u)) n r k) j (cn, le) = p_fit (p_fitP (fun u => x 8 (40 * i + u)) n r k) 101 (0, x 9 3)) → (∃ u, r1 = upd r (16 + 7 * k + 2) u) → (∃ f, x1 = va_up (va_up x 9 (upd (upd (x 9) 2 cn) 3 le)) 3 f) → mW t (r1) (x1) H → va_S (mA t) s.heap H locs → lv_has ls 5 [(0, .ref (t.2.1 0)), (1, .int ((nI i))), (2, .int ((nI k))), (3, .int (r (16 + 7 * k + 2))), (4, .int ((dj j)))] → W p l e (rmF 6) s m ([.ref (t.2.1 0), .int (nI i), .int (nI k)] : List Value).toArray below meth c H locs 0 0 (MQ below (kW none (fun H => ∃ f, mW t (r) (va_up (va_up x 9 (upd (upd (x 9) 2 (p_fit (p_fitP (fun u => x 8 (40 * i + u)) n r k) 101 (0, x 9 3)).1) 3 (p_fit (p_fitP (fun u => x 8 (40 * i + u)) n r k) 101 (0, x 9 3)).2)) 3 f) H) (mA t)) ([.ref (t.2.1 0), .int (nI i), .int (nI k)] : List Value).toArray s 0 0 (mA t)) (F0 m 16 ls []) := by
    intro j
    induction j with
    | zero =>
      intro cn le r1 x1 H locs ls hkj he hr1 hx1 hP hS hl
      obtain ⟨u1, rfl⟩ := hr1
      obtain ⟨f1, rfl⟩ := hx1
      refine lv_iload hx hb dX13_findsFits_16 (lv_at hl 4 rfl) ?_
      refine lv_if_lt (tgt := 64) hx hb dX13_findsFits_18 (by decide) (fun c_18 => ?_) (fun c_18 => ?_)
      · skip
        refine lv_aload_n hx hb dX13_findsFits_64 rfl (lv_at hl 0 rfl) ?_
        refine mg_s S hK hP dX13_findsFits_65 ?_
        refine lv_iload_n hx hb dX13_findsFits_68 rfl (lv_at hl 2 rfl) ?_
        refine lv_iconst (v := 2) hx hb dX13_findsFits_69 (by decide) ?_
        refine c_at S (rm_ok (Nat.le_of_ble_eq_true rfl)) hl.1 (k) (2) rfl rfl (Nat.le_of_ble_eq_true rfl) dX13_findsFits_70 ?_
        refine lv_iload_n hx hb dX13_findsFits_73 rfl (lv_at hl 3 rfl) ?_
        refine mk_sts S hK hP hS ((16 + 7 * k + 2)) (by omega) rfl dX13_findsFits_74 (fun H locs hP hS => ?_)
        rw [up_up, up_eta] at hP
        exact kk_vretW S hr hlk hS (by have h : (cn, le) = _ := he; rw [← h]; exact ⟨_, hP⟩) dX13_findsFits_75
      · exact absurd (show dj 0 < 0 by decide) c_18
    | succ j ih =>
      intro cn le r1 x1 H locs ls hkj he hr1 hx1 hP hS hl
      have ih_16 := ih
      obtain ⟨u1, rfl⟩ := hr1
      obtain ⟨f1, rfl⟩ := hx1
      refine lv_iload hx hb dX13_findsFits_16 (lv_at hl 4 rfl) ?_
      refine kb_lt0_n (tgt := 64) (a := j) S rfl (by omega) dX13_findsFits_18 (by decide) (fun c_18 => ?_) (fun c_18 => ?_)
      · exact c_18.elim
      · skip
        refine lv_aload_n hx hb dX13_findsFits_21 rfl (lv_at hl 0 rfl) ?_
        refine mg_s S hK hP dX13_findsFits_22 ?_
        refine lv_iload_n hx hb dX13_findsFits_25 rfl (lv_at hl 2 rfl) ?_
        refine lv_iconst (v := 2) hx hb dX13_findsFits_26 (by decide) ?_
        refine c_at S (rm_ok (Nat.le_of_ble_eq_true rfl)) hl.1 (k) (2) rfl rfl (Nat.le_of_ble_eq_true rfl) dX13_findsFits_27 ?_
        refine lv_iload hx hb dX13_findsFits_30 (lv_at hl 4 rfl) ?_
        refine mk_sts S hK hP hS ((16 + 7 * k + 2)) (by omega) rfl dX13_findsFits_32 (fun H locs hP hS => ?_)
        rw [up_up] at hP
        refine lv_aload_n hx hb dX13_findsFits_33 rfl (lv_at hl 0 rfl) ?_
        refine lv_iload_n hx hb dX13_findsFits_34 rfl (lv_at hl 1 rfl) ?_
        refine lv_iconst (v := 3) hx hb dX13_findsFits_35 (by decide) ?_
        refine c_isTold S hK hP hS (rm_ok (Nat.le_of_ble_eq_true rfl)) hl.1 (i) (3) (b) (n) (by omega) (by omega) (pV_free hV (by omega)) (by omega) (by omega) hsn rfl rfl (Nat.le_of_ble_eq_true rfl) dX13_findsFits_36 (fun H locs hP hS => ?_)
        refine kb_ifeq (tgt := 58) S dX13_findsFits_39 (by decide) (fun c_39 => ?_) (fun c_39 => ?_)
        · skip
          refine lv_iinc (v := (dj j)) (lv' := [(4, .int ((dj j))), (0, .ref (t.2.1 0)), (1, .int ((nI i))), (2, .int ((nI k))), (3, .int (r (16 + 7 * k + 2)))]) hx hb dX13_findsFits_58 hl (k := 4) rfl (dj_dec j) (by decide) rfl (fun ls hl => ?_)
          refine lv_goto (tgt := 16) hx hb dX13_findsFits_61 (by decide) ?_
          exact ih_16  cn le _ _ _ _ ls (by omega) (by have h := he; rw [p_fit, if_neg (show ¬ (p_fitP (fun u => x 8 (40 * i + u)) n r k) j = true from c_39)] at h; exact h) (⟨_, rfl⟩) (⟨_, bx_uu _ _ _ _⟩) hP hS (lv_sub hl [1, 2, 3, 4, 0] rfl)
        · skip
          refine lv_aload_n hx hb dX13_findsFits_42 rfl (lv_at hl 0 rfl) ?_
          refine lv_dup hx hb dX13_findsFits_43 rfl ?_
          refine mg_fitting S hK hP dX13_findsFits_44 ?_
          refine lv_iconst (v := 1) hx hb dX13_findsFits_47 (by decide) ?_
          refine lv_iadd hx hb dX13_findsFits_48 ?_
          refine mp_fitting S hK hP hS dX13_findsFits_49 (fun H locs hP hS => ?_)
          refine lv_aload_n hx hb dX13_findsFits_52 rfl (lv_at hl 0 rfl) ?_
          refine lv_iload hx hb dX13_findsFits_53 (lv_at hl 4 rfl) ?_
          refine mp_leastFit S hK hP hS dX13_findsFits_55 (fun H locs hP hS => ?_)
          refine lv_iinc (v := (dj j)) (lv' := [(4, .int ((dj j))), (0, .ref (t.2.1 0)), (1, .int ((nI i))), (2, .int ((nI k))), (3, .int (r (16 + 7 * k + 2)))]) hx hb dX13_findsFits_58 hl (k := 4) rfl (dj_dec j) (by decide) rfl (fun ls hl => ?_)
          refine lv_goto (tgt := 16) hx hb dX13_findsFits_61 (by decide) ?_
          exact ih_16  (cn + 1) (nI j) _ _ _ _ ls (by omega) (by have h := he; rw [p_fit, if_pos (show (p_fitP (fun u => x 8 (40 * i + u)) n r k) j = true from c_39)] at h; exact h) (⟨_, rfl⟩) (fit_1 x) hP hS (lv_sub hl [1, 2, 3, 4, 0] rfl)
  exact lp_16 101 0 (x 9 3) _ _ _ _ ls (by decide) (rfl) (⟨_, (up_eta r _).symm⟩) (fit_0 x) hP hS (lv_sub hl [2, 3, 4, 1, 0] rfl)
section MC
variable {p : Program} {l : Launch} {e : Env} {R : Room} {s : State} {m : MethodId} {args : Array Value} {below : List Frame} {meth : Method} {c : Code} {H H0 : Heap} {locs : List Loc} {cells slots : Nat} {Q : State → Prop}
variable {cc : ByteArray} {pc nL : Nat} {ls : Array Slot} {rest : List Value} {t : MT} {r : Rw} {x : Nat → Rw}
theorem c_findsFits (S : CallFix p m c cc nL s args lw_all RX13) (hK : mK t s) (hP : mW t r x H) (hS : va_S (mA t) H0 H locs) (hR : kRm R 7 cells slots) (hsz : ls.size = nL) (i : Nat) (k : Nat) (b : Nat) (n : Nat) (hi : i < 4) (hk : k < 8) (hV : pV b r) (hb : b ≤ 99999) (hlen : n ≤ 40) (hsn : x 7 i = nI n) {i0 : Int32} (e0 : i0 = nI i) {i1 : Int32} (e1 : i1 = nI k) (hrest : (rest.map fun v => v.category).sum ≤ 8) (hdg : decode cc pc = .ok (.invokevirtual 196, 3)) (kk : ∀ (f : Rw) (H1 : Heap) (locs1 : List Loc), mW t (r) (va_up (va_up x 9 (upd (upd (x 9) 2 (p_fit (p_fitP (fun u => x 8 (40 * i + u)) n r k) 101 (0, x 9 3)).1) 3 (p_fit (p_fitP (fun u => x 8 (40 * i + u)) n r k) 101 (0, x 9 3)).2)) 3 f) H1 → va_S (mA t) H0 H1 locs1 → W p l e R s m args below meth c H1 locs1 cells slots Q (F0 m (pc + 3) ls (rest))) : W p l e R s m args below meth c H locs cells slots Q (F0 m pc ls (.int i1 :: .int i0 :: .ref (t.2.1 0) :: rest)) := by
  subst e0
  subst e1
  exact kk_Wv (W.runV (As := [.int (nI i), .int (nI k)]) (rest := rest) S (k_findsFits l t r x i k b n hi hk hV hb hlen hsn) (cwV 2 S.2.2.2.2 (lw_V q1544 q1546 qs83 q117 q1547) rfl rfl rfl (by decide +kernel) ⟨hR.1, by have := hR.2.1; show 8 + (5 + 11) + 38 * 6 ≤ R.locals; omega⟩) ⟨m_blind, m_recv hK hP, m_pre hK hP⟩ rfl rfl hsz rfl (lv_room hrest) hdg ⟨hR.2.2.1, hR.2.2.2⟩) hS (fun _ h => h) (fun _ h => h) (fun H1 locs1 hB _ _ hS => by obtain ⟨f, hB⟩ := hB; exact kk f H1 locs1 hB hS)
end MC

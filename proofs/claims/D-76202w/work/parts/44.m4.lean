set_option maxHeartbeats 4000000 in
set_option maxRecDepth 100000 in
theorem k_day (l : Launch) (t : MT) (r : Rw) (x : Nat → Rw) (b : Nat) (hV : pV b r) (hb : b < 2 ^ 30) : Met l yX13_day (ws_ yX13_day cX13_day 5 none) (rmF 4) (va_Pc [.ref (t.2.1 0)] (fun U => mK t U ∧ mW t r x U.heap)) (kW none (mW t (p_day r) (x)) (mA t)) 0 0 (mA t) := by
  refine kk_start (by decide) (Nat.le_of_ble_eq_true rfl) ?_
  intro p e s m below meth c S hr hlk hin hB ls hl
  obtain ⟨hK, hP⟩ := hB
  have hx := S.1
  have hb := S.2.1
  have hown : s.vm.findClass RX13 = some m.cls := S.2.2.2.1
  have hts := S.2.2.2.2
  have hS : va_S (mA t) s.heap s.heap [] := va_S.rf
  have hl : lv_has ls 5 [(0, .ref (t.2.1 0))] := hl
  have hn := hV.n.1
  have hn8 := hV.n.2
  have hd := (hV.d (by omega)).1
  have hdb := (hV.d (by omega)).2
  refine lv_aload_n hx hb dX13_day_0 rfl (lv_at hl 0 rfl) ?_
  refine mg_s S hK hP dX13_day_1 ?_
  refine lv_iconst (v := 1) hx hb dX13_day_4 (by decide) ?_
  refine mk_lds S hK hP (1) (by omega) rfl dX13_day_5 ?_
  refine lv_bipush (v := 6) hx hb dX13_day_6 (by decide) ?_
  refine lv_irem hx hb dX13_day_8 (by decide) ?_
  refine kb_nat (y := nI ((pD r % 6))) (by rw [hd]; exact pk_rem (by omega) (by decide) (by decide)) ?_
  refine lv_istore_n (lv' := [(1, .int ((nI (pD r % 6)))), (0, .ref (t.2.1 0))]) hx hb dX13_day_9 rfl hl (by decide) rfl (fun ls hl => ?_)
  refine lv_aload_n hx hb dX13_day_10 rfl (lv_at hl 1 rfl) ?_
  refine lv_iload_n hx hb dX13_day_11 rfl (lv_at hl 0 rfl) ?_
  refine c_emptiest S hK hP (rm_ok (Nat.le_of_ble_eq_true rfl)) hl.1 (b) hV (Nat.le_of_ble_eq_true rfl) dX13_day_12 ?_
  refine kb_topo (fun o_1 eo_1 => ?_)
  have hb8 : ∀ i, o_1 = some i → i < 8 := fun i h => p_emp_lt hV (eo_1 ▸ h)
  refine lv_istore_n (lv' := [(2, .int ((oi o_1))), (1, .int ((nI (pD r % 6)))), (0, .ref (t.2.1 0))]) hx hb dX13_day_15 rfl hl (by decide) rfl (fun ls hl => ?_)
  have cut_34 : ∀ (ra : Rw) (H : Heap) (locs : List Loc) (ls : Array Slot), (ra = p_s0 r) → mW t (ra) (x) H → va_S (mA t) s.heap H locs → lv_has ls 5 [(0, .ref (t.2.1 0))] → W p l e (rmF 4) s m ([.ref (t.2.1 0)] : List Value).toArray below meth c H locs 0 0 (MQ below (kW none (mW t (p_day r) (x)) (mA t)) ([.ref (t.2.1 0)] : List Value).toArray s 0 0 (mA t)) (F0 m 34 ls []) := by
    intro ra H locs ls ha hP hS hl
    subst ha
    refine lv_iconst (v := 0) hx hb dX13_day_34 (by decide) ?_
    refine lv_istore_n (lv' := [(3, .int (0)), (0, .ref (t.2.1 0))]) hx hb dX13_day_35 rfl hl (by decide) rfl (fun ls hl => ?_)
    have lp_36 : ∀ (j k : Nat) (r1 : Rw) (H : Heap) (locs : List Loc) (ls : Array Slot), k + j = pN r → (lp (fun k q => p_ag (p_lk q k) k) j k r1 = p_s1 r) → (kp r r1) → mW t (r1) (x) H → va_S (mA t) s.heap H locs → lv_has ls 5 [(0, .ref (t.2.1 0)), (3, .int ((nI k)))] → W p l e (rmF 4) s m ([.ref (t.2.1 0)] : List Value).toArray below meth c H locs 0 0 (MQ below (kW none (mW t (p_day r) (x)) (mA t)) ([.ref (t.2.1 0)] : List Value).toArray s 0 0 (mA t)) (F0 m 36 ls []) := by
      intro j
      induction j with
      | zero =>
        intro k  r1 H locs ls hkj he hk1 hP hS hl
        refine lv_iload_n hx hb dX13_day_36 rfl (lv_at hl 1 rfl) ?_
        refine lv_aload_n hx hb dX13_day_37 rfl (lv_at hl 0 rfl) ?_
        refine mg_s S hK hP dX13_day_38 ?_
        refine lv_iconst (v := 0) hx hb dX13_day_41 (by decide) ?_
        refine mk_lds S hK hP (0) (by omega) rfl dX13_day_42 ?_
        refine kb_ge_n (tgt := 102) (a := k) (b := (pN r)) S rfl ((hk1 0 (by unfold pm; omega)).trans hn) (by omega) (by omega) dX13_day_43 (by decide) (fun c_43 => ?_) (fun c_43 => ?_)
        · skip
          have he0 : r1 = p_s1 r := he
          subst he0
          refine lv_iconst (v := 0) hx hb dX13_day_102 (by decide) ?_
          refine lv_istore_n (lv' := [(3, .int (0)), (0, .ref (t.2.1 0))]) hx hb dX13_day_103 rfl hl (by decide) rfl (fun ls hl => ?_)
          have lp_104 : ∀ (j a : Nat) (r2 : Rw) (H : Heap) (locs : List Loc) (ls : Array Slot), a + j = pN r → (lp (fun a q => lp (fun b q => p_can q a b) (pN r - (a + 1)) (a + 1) q) j a r2 = p_s2 r) → (kp r r2) → mW t (r2) (x) H → va_S (mA t) s.heap H locs → lv_has ls 5 [(0, .ref (t.2.1 0)), (3, .int ((nI a)))] → W p l e (rmF 4) s m ([.ref (t.2.1 0)] : List Value).toArray below meth c H locs 0 0 (MQ below (kW none (mW t (p_day r) (x)) (mA t)) ([.ref (t.2.1 0)] : List Value).toArray s 0 0 (mA t)) (F0 m 104 ls []) := by
            intro j
            induction j with
            | zero =>
              intro a  r2 H locs ls hkj he hk2 hP hS hl
              refine lv_iload_n hx hb dX13_day_104 rfl (lv_at hl 1 rfl) ?_
              refine lv_aload_n hx hb dX13_day_105 rfl (lv_at hl 0 rfl) ?_
              refine mg_s S hK hP dX13_day_106 ?_
              refine lv_iconst (v := 0) hx hb dX13_day_109 (by decide) ?_
              refine mk_lds S hK hP (0) (by omega) rfl dX13_day_110 ?_
              refine kb_ge_n (tgt := 149) (a := a) (b := (pN r)) S rfl ((hk2 0 (by unfold pm; omega)).trans hn) (by omega) (by omega) dX13_day_111 (by decide) (fun c_111 => ?_) (fun c_111 => ?_)
              · skip
                have he0 : r2 = p_s2 r := he
                subst he0
                refine lv_aload_n hx hb dX13_day_149 rfl (lv_at hl 0 rfl) ?_
                refine c_strained S hK hP (rm_ok (Nat.le_of_ble_eq_true rfl)) hl.1 (b) (hV.kp (kp_s2 hV)) (Nat.le_of_ble_eq_true rfl) dX13_day_150 ?_
                refine kb_topo (fun o_2 eo_2 => ?_)
                have hb8 : ∀ i, o_2 = some i → i < 8 := fun i h => p_str_lt (hV.kp (kp_s2 hV)) (eo_2 ▸ h)
                refine lv_istore_n (lv' := [(3, .int ((oi o_2))), (0, .ref (t.2.1 0))]) hx hb dX13_day_153 rfl hl (by decide) rfl (fun ls hl => ?_)
                refine lv_iconst (v := 0) hx hb dX13_day_154 (by decide) ?_
                refine lv_istore (lv' := [(4, .int (0)), (3, .int ((oi o_2))), (0, .ref (t.2.1 0))]) hx hb dX13_day_155 hl (by decide) rfl (fun ls hl => ?_)
                have lp_157 : ∀ (j q : Nat) (nx : Option Nat) (r4 : Rw) (H : Heap) (locs : List Loc) (ls : Array Slot), q + j = 8 → (p_bl j r4 = p_s3 r) → (kp r r4) → (nx = p_str r4) → (∀ i, nx = some i → i < 8) → mW t (r4) (x) H → va_S (mA t) s.heap H locs → lv_has ls 5 [(0, .ref (t.2.1 0)), (3, .int ((oi nx))), (4, .int ((nI q)))] → W p l e (rmF 4) s m ([.ref (t.2.1 0)] : List Value).toArray below meth c H locs 0 0 (MQ below (kW none (mW t (p_day r) (x)) (mA t)) ([.ref (t.2.1 0)] : List Value).toArray s 0 0 (mA t)) (F0 m 157 ls []) := by
                  intro j
                  induction j with
                  | zero =>
                    intro q nx r4 H locs ls hkj he hk4 hnx hb8 hP hS hl
                    refine lv_iload hx hb dX13_day_157 (lv_at hl 2 rfl) ?_
                    refine lv_bipush (v := 8) hx hb dX13_day_159 (by decide) ?_
                    refine kb_ge_n (tgt := 184) (a := q) (b := 8) S rfl rfl (by omega) (by omega) dX13_day_161 (by decide) (fun c_161 => ?_) (fun c_161 => ?_)
                    · skip
                      have he0 : r4 = p_s3 r := he
                      subst he0
                      refine lv_aload_n hx hb dX13_day_184 rfl (lv_at hl 0 rfl) ?_
                      refine mg_s S hK hP dX13_day_185 ?_
                      refine lv_iconst (v := 1) hx hb dX13_day_188 (by decide) ?_
                      refine lv_dup2_11 hx hb dX13_day_189 rfl rfl ?_
                      refine mk_lds S hK hP (1) (by omega) rfl dX13_day_190 ?_
                      refine lv_iconst (v := 1) hx hb dX13_day_191 (by decide) ?_
                      refine lv_iadd hx hb dX13_day_192 ?_
                      refine mk_sts S hK hP hS (1) (by omega) rfl dX13_day_193 (fun H locs hP hS => ?_)
                      exact kk_vretW S hr hlk hS (hP) dX13_day_194
                    · exact absurd c_161 (by omega)
                  | succ j ih =>
                    intro q nx r4 H locs ls hkj he hk4 hnx hb8 hP hS hl
                    have ih_157 := ih
                    refine lv_iload hx hb dX13_day_157 (lv_at hl 2 rfl) ?_
                    refine lv_bipush (v := 8) hx hb dX13_day_159 (by decide) ?_
                    refine kb_ge_n (tgt := 184) (a := q) (b := 8) S rfl rfl (by omega) (by omega) dX13_day_161 (by decide) (fun c_161 => ?_) (fun c_161 => ?_)
                    · exact absurd c_161 (by omega)
                    · skip
                      refine lv_iload_n hx hb dX13_day_164 rfl (lv_at hl 1 rfl) ?_
                      refine kb_iflt_o (tgt := 184) S dX13_day_165 (by decide) (fun c_165 => ?_) (fun c_165 => ?_) (fun i hi => Nat.lt_trans (hb8 i hi) (by decide))
                      · skip
                        subst c_165
                        have he0 : r4 = p_s3 r := by (have h := he; rw [p_bl, ← hnx] at h; exact h)
                        subst he0
                        refine lv_aload_n hx hb dX13_day_184 rfl (lv_at hl 0 rfl) ?_
                        refine mg_s S hK hP dX13_day_185 ?_
                        refine lv_iconst (v := 1) hx hb dX13_day_188 (by decide) ?_
                        refine lv_dup2_11 hx hb dX13_day_189 rfl rfl ?_
                        refine mk_lds S hK hP (1) (by omega) rfl dX13_day_190 ?_
                        refine lv_iconst (v := 1) hx hb dX13_day_191 (by decide) ?_
                        refine lv_iadd hx hb dX13_day_192 ?_
                        refine mk_sts S hK hP hS (1) (by omega) rfl dX13_day_193 (fun H locs hP hS => ?_)
                        exact kk_vretW S hr hlk hS (hP) dX13_day_194
                      · skip
                        obtain ⟨nx_165, rfl⟩ := c_165
                        have hnx_165 := hb8 _ rfl
                        refine lv_aload_n hx hb dX13_day_168 rfl (lv_at hl 0 rfl) ?_
                        refine lv_iload_n hx hb dX13_day_169 rfl (lv_at hl 1 rfl) ?_
                        refine c_burst S hK hP hS (rm_ok (Nat.le_of_ble_eq_true rfl)) hl.1 (nx_165) (b) (by omega) (hV.kp hk4) (oi_some _) (Nat.le_of_ble_eq_true rfl) dX13_day_170 (fun H locs hP hS => ?_)
                        refine lv_aload_n hx hb dX13_day_173 rfl (lv_at hl 0 rfl) ?_
                        refine c_strained S hK hP (rm_ok (Nat.le_of_ble_eq_true rfl)) hl.1 (b) (hV.kp (kp_burst hk4 hnx_165 (hV.kp hk4).n.2)) (Nat.le_of_ble_eq_true rfl) dX13_day_174 ?_
                        refine kb_topo (fun o_3 eo_3 => ?_)
                        have hb8 : ∀ i, o_3 = some i → i < 8 := fun i h => p_str_lt (hV.kp (kp_burst hk4 hnx_165 (hV.kp hk4).n.2)) (eo_3 ▸ h)
                        refine lv_istore_n (lv' := [(3, .int ((oi o_3))), (0, .ref (t.2.1 0)), (4, .int ((nI q)))]) hx hb dX13_day_177 rfl hl (by decide) rfl (fun ls hl => ?_)
                        refine lv_iinc (v := (nI (q + 1))) (lv' := [(4, .int ((nI (q + 1)))), (3, .int ((oi o_3))), (0, .ref (t.2.1 0))]) hx hb dX13_day_178 hl (k := 2) rfl (nn_1 rfl) (by decide) rfl (fun ls hl => ?_)
                        refine lv_goto (tgt := 157) hx hb dX13_day_181 (by decide) ?_
                        exact ih_157 ((q + 1)) o_3 _ _ _ ls (by omega) (by have h := he; rw [p_bl, ← hnx] at h; exact h) (kp_burst hk4 hnx_165 (hV.kp hk4).n.2) (eo_3) (hb8) hP hS (lv_sub hl [2, 1, 0] rfl)
                exact lp_157 8 0 o_2 _ _ _ ls (by omega) (rfl) (kp_s2 hV) (eo_2) (hb8) hP hS (lv_sub hl [2, 1, 0] rfl)
              · exact absurd c_111 (by omega)
            | succ j ih =>
              intro a  r2 H locs ls hkj he hk2 hP hS hl
              have ih_104 := ih
              refine lv_iload_n hx hb dX13_day_104 rfl (lv_at hl 1 rfl) ?_
              refine lv_aload_n hx hb dX13_day_105 rfl (lv_at hl 0 rfl) ?_
              refine mg_s S hK hP dX13_day_106 ?_
              refine lv_iconst (v := 0) hx hb dX13_day_109 (by decide) ?_
              refine mk_lds S hK hP (0) (by omega) rfl dX13_day_110 ?_
              refine kb_ge_n (tgt := 149) (a := a) (b := (pN r)) S rfl ((hk2 0 (by unfold pm; omega)).trans hn) (by omega) (by omega) dX13_day_111 (by decide) (fun c_111 => ?_) (fun c_111 => ?_)
              · exact absurd c_111 (by omega)
              · skip
                refine lv_iload_n hx hb dX13_day_114 rfl (lv_at hl 1 rfl) ?_
                refine lv_iconst (v := 1) hx hb dX13_day_115 (by decide) ?_
                refine lv_iadd hx hb dX13_day_116 ?_
                refine kb_nat (y := nI ((a + 1))) (nn_add rfl rfl) ?_
                refine lv_istore (lv' := [(4, .int ((nI (a + 1)))), (0, .ref (t.2.1 0)), (3, .int ((nI a)))]) hx hb dX13_day_117 hl (by decide) rfl (fun ls hl => ?_)
                have lp_119 : ∀ (j bb : Nat) (r3 : Rw) (H : Heap) (locs : List Loc) (ls : Array Slot), bb + j = pN r → (lp (fun b q => p_can q a b) j bb r3 = lp (fun b q => p_can q a b) (pN r - (a + 1)) (a + 1) r2) → (kp r r3) → mW t (r3) (x) H → va_S (mA t) s.heap H locs → lv_has ls 5 [(0, .ref (t.2.1 0)), (3, .int ((nI a))), (4, .int ((nI bb)))] → W p l e (rmF 4) s m ([.ref (t.2.1 0)] : List Value).toArray below meth c H locs 0 0 (MQ below (kW none (mW t (p_day r) (x)) (mA t)) ([.ref (t.2.1 0)] : List Value).toArray s 0 0 (mA t)) (F0 m 119 ls []) := by
                  intro j
                  induction j with
                  | zero =>
                    intro bb  r3 H locs ls hkj he3 hk3 hP hS hl
                    refine lv_iload hx hb dX13_day_119 (lv_at hl 2 rfl) ?_
                    refine lv_aload_n hx hb dX13_day_121 rfl (lv_at hl 0 rfl) ?_
                    refine mg_s S hK hP dX13_day_122 ?_
                    refine lv_iconst (v := 0) hx hb dX13_day_125 (by decide) ?_
                    refine mk_lds S hK hP (0) (by omega) rfl dX13_day_126 ?_
                    refine kb_ge_n (tgt := 143) (a := bb) (b := (pN r)) S rfl ((hk3 0 (by unfold pm; omega)).trans hn) (by omega) (by omega) dX13_day_127 (by decide) (fun c_127 => ?_) (fun c_127 => ?_)
                    · skip
                      have e3 : r3 = lp (fun b q => p_can q a b) (pN r - (a + 1)) (a + 1) r2 := he3
                      refine lv_iinc (v := (nI (a + 1))) (lv' := [(3, .int ((nI (a + 1)))), (0, .ref (t.2.1 0)), (4, .int ((nI bb)))]) hx hb dX13_day_143 hl (k := 1) rfl (nn_1 rfl) (by decide) rfl (fun ls hl => ?_)
                      refine lv_goto (tgt := 104) hx hb dX13_day_146 (by decide) ?_
                      exact ih_104 ((a + 1)) _ _ _ ls (by omega) (by have h := he; rw [lp] at h; rw [e3]; exact h) (hk3) hP hS (lv_sub hl [1, 0] rfl)
                    · exact absurd c_127 (by omega)
                  | succ j ih =>
                    intro bb  r3 H locs ls hkj he3 hk3 hP hS hl
                    have ih_119 := ih
                    refine lv_iload hx hb dX13_day_119 (lv_at hl 2 rfl) ?_
                    refine lv_aload_n hx hb dX13_day_121 rfl (lv_at hl 0 rfl) ?_
                    refine mg_s S hK hP dX13_day_122 ?_
                    refine lv_iconst (v := 0) hx hb dX13_day_125 (by decide) ?_
                    refine mk_lds S hK hP (0) (by omega) rfl dX13_day_126 ?_
                    refine kb_ge_n (tgt := 143) (a := bb) (b := (pN r)) S rfl ((hk3 0 (by unfold pm; omega)).trans hn) (by omega) (by omega) dX13_day_127 (by decide) (fun c_127 => ?_) (fun c_127 => ?_)
                    · exact absurd c_127 (by omega)
                    · skip
                      refine lv_aload_n hx hb dX13_day_130 rfl (lv_at hl 0 rfl) ?_
                      refine lv_iload_n hx hb dX13_day_131 rfl (lv_at hl 1 rfl) ?_
                      refine lv_iload hx hb dX13_day_132 (lv_at hl 2 rfl) ?_
                      refine c_cancel S hK hP hS (rm_ok (Nat.le_of_ble_eq_true rfl)) hl.1 (a) (bb) (by omega) (by omega) rfl rfl (Nat.le_of_ble_eq_true rfl) dX13_day_134 (fun H locs hP hS => ?_)
                      refine lv_iinc (v := (nI (bb + 1))) (lv' := [(4, .int ((nI (bb + 1)))), (0, .ref (t.2.1 0)), (3, .int ((nI a)))]) hx hb dX13_day_137 hl (k := 2) rfl (nn_1 rfl) (by decide) rfl (fun ls hl => ?_)
                      refine lv_goto (tgt := 119) hx hb dX13_day_140 (by decide) ?_
                      exact ih_119 ((bb + 1)) _ _ _ ls (by omega) (by have h := he3; rw [lp] at h; exact h) (kp_can hk3 (by omega) (by omega)) hP hS (lv_sub hl [1, 2, 0] rfl)
                exact lp_119 (pN r - (a + 1)) (a + 1) _ _ _ ls (by omega) (rfl) (hk2) hP hS (lv_sub hl [1, 2, 0] rfl)
          exact lp_104 (pN r) 0 _ _ _ ls (by omega) (rfl) (kp_s1 hV) hP hS (lv_sub hl [1, 0] rfl)
        · exact absurd c_43 (by omega)
      | succ j ih =>
        intro k  r1 H locs ls hkj he hk1 hP hS hl
        have ih_36 := ih
        refine lv_iload_n hx hb dX13_day_36 rfl (lv_at hl 1 rfl) ?_
        refine lv_aload_n hx hb dX13_day_37 rfl (lv_at hl 0 rfl) ?_
        refine mg_s S hK hP dX13_day_38 ?_
        refine lv_iconst (v := 0) hx hb dX13_day_41 (by decide) ?_
        refine mk_lds S hK hP (0) (by omega) rfl dX13_day_42 ?_
        refine kb_ge_n (tgt := 102) (a := k) (b := (pN r)) S rfl ((hk1 0 (by unfold pm; omega)).trans hn) (by omega) (by omega) dX13_day_43 (by decide) (fun c_43 => ?_) (fun c_43 => ?_)
        · exact absurd c_43 (by omega)
        · skip
          refine lv_aload_n hx hb dX13_day_46 rfl (lv_at hl 0 rfl) ?_
          refine mg_s S hK hP dX13_day_47 ?_
          refine lv_iload_n hx hb dX13_day_50 rfl (lv_at hl 1 rfl) ?_
          refine lv_iconst (v := 2) hx hb dX13_day_51 (by decide) ?_
          refine c_at S (rm_ok (Nat.le_of_ble_eq_true rfl)) hl.1 (k) (2) rfl rfl (Nat.le_of_ble_eq_true rfl) dX13_day_52 ?_
          refine lv_iconst (v := 0) hx hb dX13_day_55 (by decide) ?_
          refine lv_aload_n hx hb dX13_day_56 rfl (lv_at hl 0 rfl) ?_
          refine lv_iload_n hx hb dX13_day_57 rfl (lv_at hl 1 rfl) ?_
          refine lv_iconst (v := 2) hx hb dX13_day_58 (by decide) ?_
          refine c_its S hK hP (rm_ok (Nat.le_of_ble_eq_true rfl)) hl.1 (k) (2) (by omega) (by omega) rfl rfl (Nat.le_of_ble_eq_true rfl) dX13_day_59 ?_
          refine lv_aload_n hx hb dX13_day_62 rfl (lv_at hl 0 rfl) ?_
          refine lv_iload_n hx hb dX13_day_63 rfl (lv_at hl 1 rfl) ?_
          refine c_leaks S hK hP (rm_ok (Nat.le_of_ble_eq_true rfl)) hl.1 (k) (b) (by omega) (hV.kp hk1) rfl (Nat.le_of_ble_eq_true rfl) dX13_day_64 ?_
          refine lv_isub hx hb dX13_day_67 ?_
          refine c_greatest S (rm_ok (Nat.le_of_ble_eq_true rfl)) hl.1 (Nat.le_of_ble_eq_true rfl) dX13_day_68 ?_
          refine mk_sts S hK hP hS ((16 + 7 * k + 2)) (by omega) rfl dX13_day_71 (fun H locs hP hS => ?_)
          refine lv_aload_n hx hb dX13_day_72 rfl (lv_at hl 0 rfl) ?_
          refine mg_s S hK hP dX13_day_73 ?_
          refine lv_iload_n hx hb dX13_day_76 rfl (lv_at hl 1 rfl) ?_
          refine lv_iconst (v := 5) hx hb dX13_day_77 (by decide) ?_
          refine c_at S (rm_ok (Nat.le_of_ble_eq_true rfl)) hl.1 (k) (5) rfl rfl (Nat.le_of_ble_eq_true rfl) dX13_day_78 ?_
          refine lv_sipush (v := 999) hx hb dX13_day_81 (by decide) ?_
          refine lv_aload_n hx hb dX13_day_84 rfl (lv_at hl 0 rfl) ?_
          refine lv_iload_n hx hb dX13_day_85 rfl (lv_at hl 1 rfl) ?_
          refine lv_iconst (v := 5) hx hb dX13_day_86 (by decide) ?_
          refine c_its S hK hP (rm_ok (Nat.le_of_ble_eq_true rfl)) hl.1 (k) (5) (by omega) (by omega) rfl rfl (Nat.le_of_ble_eq_true rfl) dX13_day_87 ?_
          refine lv_iconst (v := 1) hx hb dX13_day_90 (by decide) ?_
          refine lv_iadd hx hb dX13_day_91 ?_
          refine c_least S (rm_ok (Nat.le_of_ble_eq_true rfl)) hl.1 (Nat.le_of_ble_eq_true rfl) dX13_day_92 ?_
          refine mk_sts S hK hP hS ((16 + 7 * k + 5)) (by omega) rfl dX13_day_95 (fun H locs hP hS => ?_)
          refine lv_iinc (v := (nI (k + 1))) (lv' := [(3, .int ((nI (k + 1)))), (0, .ref (t.2.1 0))]) hx hb dX13_day_96 hl (k := 1) rfl (nn_1 rfl) (by decide) rfl (fun ls hl => ?_)
          refine lv_goto (tgt := 36) hx hb dX13_day_99 (by decide) ?_
          exact ih_36 ((k + 1)) _ _ _ ls (by omega) (by have h := he; rw [lp] at h; exact h) (kp_lkag hk1 (by omega)) hP hS (lv_sub hl [1, 0] rfl)
    exact lp_36 (pN r) 0 _ _ _ ls (by omega) (rfl) (kp_s0 hV) hP hS (lv_sub hl [1, 0] rfl)
  refine lv_iload_n hx hb dX13_day_16 rfl (lv_at hl 0 rfl) ?_
  refine kb_iflt_o (tgt := 34) S dX13_day_17 (by decide) (fun c_17 => ?_) (fun c_17 => ?_) (fun i hi => Nat.lt_trans (hb8 i hi) (by decide))
  · skip
    subst c_17
    exact cut_34 _ _ _ ls (by unfold p_s0; rw [← eo_1]) hP hS (lv_sub hl [2] rfl)
  · skip
    obtain ⟨o_1_17, rfl⟩ := c_17
    have ho_1_17 := hb8 _ rfl
    refine lv_aload_n hx hb dX13_day_20 rfl (lv_at hl 2 rfl) ?_
    refine lv_iload_n hx hb dX13_day_21 rfl (lv_at hl 0 rfl) ?_
    refine lv_aload_n hx hb dX13_day_22 rfl (lv_at hl 2 rfl) ?_
    refine mg_s S hK hP dX13_day_23 ?_
    refine lv_bipush (v := 10) hx hb dX13_day_26 (by decide) ?_
    refine lv_iload_n hx hb dX13_day_28 rfl (lv_at hl 1 rfl) ?_
    refine lv_iadd hx hb dX13_day_29 ?_
    refine mk_lds S hK hP ((10 + (pD r % 6))) (by omega) (nn_add rfl rfl) dX13_day_30 ?_
    refine c_more S hK hP hS (rm_ok (Nat.le_of_ble_eq_true rfl)) hl.1 (o_1_17) (by omega) (oi_some _) (Nat.le_of_ble_eq_true rfl) dX13_day_31 (fun H locs hP hS => ?_)
    exact cut_34 _ _ _ ls (by unfold p_s0; rw [← eo_1]) hP hS (lv_sub hl [2] rfl)
section MC
variable {p : Program} {l : Launch} {e : Env} {R : Room} {s : State} {m : MethodId} {args : Array Value} {below : List Frame} {meth : Method} {c : Code} {H H0 : Heap} {locs : List Loc} {cells slots : Nat} {Q : State → Prop}
variable {cc : ByteArray} {pc nL : Nat} {ls : Array Slot} {rest : List Value} {t : MT} {r : Rw} {x : Nat → Rw}
theorem c_day (S : CallFix p m c cc nL s args lw_all RX13) (hK : mK t s) (hP : mW t r x H) (hS : va_S (mA t) H0 H locs) (hR : kRm R 5 cells slots) (hsz : ls.size = nL) (b : Nat) (hV : pV b r) (hb : b < 2 ^ 30) (hrest : (rest.map fun v => v.category).sum ≤ 8) (hdg : decode cc pc = .ok (.invokevirtual 119, 3)) (kk : ∀ (H1 : Heap) (locs1 : List Loc), mW t (p_day r) (x) H1 → va_S (mA t) H0 H1 locs1 → W p l e R s m args below meth c H1 locs1 cells slots Q (F0 m (pc + 3) ls (rest))) : W p l e R s m args below meth c H locs cells slots Q (F0 m pc ls (.ref (t.2.1 0) :: rest)) := by
  exact kk_Wv (W.runV (As := []) (rest := rest) S (k_day l t r x b hV hb) (cwV 0 S.2.2.2.2 (lw_V q1393 q1395 qs66 q117 q1396) rfl rfl rfl (by decide +kernel) ⟨hR.1, by have := hR.2.1; show 8 + (5 + 11) + 38 * 4 ≤ R.locals; omega⟩) ⟨m_blind, m_recv hK hP, m_pre hK hP⟩ rfl rfl hsz rfl (lv_room hrest) hdg ⟨hR.2.2.1, hR.2.2.2⟩) hS (fun _ h => h) (fun _ h => h) (fun H1 locs1 hB _ _ hS => kk H1 locs1 hB hS)
end MC

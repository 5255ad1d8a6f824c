set_option maxHeartbeats 4000000 in
set_option maxRecDepth 100000 in
theorem k_odds (l : Launch) (t : MT) (r : Rw) (x : Nat → Rw) (n : Int32) (w : Int32) (b : Nat) (hV : pV b r) : Met l yX13_odds (ws_ yX13_odds cX13_odds 14 (some .long)) (rmF 2) (va_Pc [.ref (t.2.1 0), .int n, .int w] (fun U => mK t U ∧ mW t r x U.heap)) (kW (some (.long ((o_odds r n w).1))) (mW t (r) (fx x (o_odds r n w).2)) (mA t)) 0 0 (mA t) := by
  refine kk_start (by decide) (Nat.le_of_ble_eq_true rfl) ?_
  intro p e s m below meth c S hr hlk hin hB ls hl
  obtain ⟨hK, hP⟩ := hB
  have hx := S.1
  have hb := S.2.1
  have hown : s.vm.findClass RX13 = some m.cls := S.2.2.2.1
  have hts := S.2.2.2.2
  have hS : va_S (mA t) s.heap s.heap [] := va_S.rf
  have hl : lv_has ls 14 [(0, .ref (t.2.1 0)), (1, .int (n)), (2, .int (w))] := hl
  have hn := hV.n.1
  have hn8 := hV.n.2
  have hu64 := p_used_lt hV
  have hm6 := many6 (p_used r) (p_used_lt hV)
  have hfr : p_free r ≤ 6 := by unfold p_free; omega
  refine lv_iload_n hx hb dX13_odds_0 rfl (lv_at hl 1 rfl) ?_
  refine lv_i2l hx hb dX13_odds_1 rfl ?_
  refine lv_lconst (v := (0 : Int32).toInt64) hx hb dX13_odds_2 (by decide) ?_
  refine lv_ldc2 (v := ((23) : Int32).toInt64) hx hb hown (hts _ q1573) dX13_odds_3 ?_
  refine c_isIn S (rm_ok (Nat.le_of_ble_eq_true rfl)) hl.1 (Nat.le_of_ble_eq_true rfl) dX13_odds_6 ?_
  refine kb_ifeq (tgt := 22) S dX13_odds_9 (by decide) (fun c_9 => ?_) (fun c_9 => ?_)
  · skip
    refine lv_aload_n hx hb dX13_odds_22 rfl (lv_at hl 0 rfl) ?_
    refine lv_ldc (v := (-1000001)) hx hb hown (hts _ q1305) dX13_odds_23 ?_
    refine c_finds S hK hP hS (rm_ok (Nat.le_of_ble_eq_true rfl)) hl.1 (0) (by decide) (by decide) (Nat.le_of_ble_eq_true rfl) dX13_odds_25 (fun H locs hP hS => ?_)
    refine lv_i2l hx hb dX13_odds_28 rfl ?_
    exact kk_lretW S hr hlk hS (by simp only [o_odds, c_9, reduceIte, and_self, fx]; exact hP) (by simp only [o_odds, c_9, reduceIte, and_self]; decide) dX13_odds_29
  · skip
    refine lv_iload_n hx hb dX13_odds_12 rfl (lv_at hl 2 rfl) ?_
    refine lv_i2l hx hb dX13_odds_13 rfl ?_
    refine lv_lconst (v := (0 : Int32).toInt64) hx hb dX13_odds_14 (by decide) ?_
    refine lv_lconst (v := (1 : Int32).toInt64) hx hb dX13_odds_15 (by decide) ?_
    refine c_isIn S (rm_ok (Nat.le_of_ble_eq_true rfl)) hl.1 (Nat.le_of_ble_eq_true rfl) dX13_odds_16 ?_
    refine kb_ifne (tgt := 30) S dX13_odds_19 (by decide) (fun c_19 => ?_) (fun c_19 => ?_)
    · skip
      obtain ⟨n_, hn_, rfl⟩ := nat_of_le (n := 23) (rfl) (by omega) c_9
      have hcl_n_ := nI_clamp (n := n_) (by omega)
      refine lv_lconst (v := (1 : Int32).toInt64) hx hb dX13_odds_30 (by decide) ?_
      refine lv_lstore_n (lv' := [(3, .long ((1 : Int32).toInt64)), (0, .ref (t.2.1 0)), (1, .int ((nI n_))), (2, .int (w))]) hx hb dX13_odds_31 rfl hl (by decide) rfl (fun ls hl => ?_)
      refine lv_lconst (v := (1 : Int32).toInt64) hx hb dX13_odds_32 (by decide) ?_
      refine lv_lstore (lv' := [(5, .long ((1 : Int32).toInt64)), (3, .long ((1 : Int32).toInt64)), (0, .ref (t.2.1 0)), (1, .int ((nI n_))), (2, .int (w))]) hx hb dX13_odds_33 hl (by decide) rfl (fun ls hl => ?_)
      refine lv_bipush (v := 6) hx hb dX13_odds_35 (by decide) ?_
      refine lv_aload_n hx hb dX13_odds_37 rfl (lv_at hl 2 rfl) ?_
      refine c_usedOnes S hK hP (rm_ok (Nat.le_of_ble_eq_true rfl)) hl.1 (b) hV (Nat.le_of_ble_eq_true rfl) dX13_odds_38 ?_
      refine c_many S (rm_ok (Nat.le_of_ble_eq_true rfl)) hl.1 ((p_used r)) (by omega) rfl (Nat.le_of_ble_eq_true rfl) dX13_odds_41 ?_
      refine lv_isub hx hb dX13_odds_44 ?_
      refine kb_nat (y := nI (p_free r)) (nn_sub rfl rfl hm6) ?_
      refine lv_istore (lv' := [(7, .int ((nI (p_free r)))), (5, .long ((1 : Int32).toInt64)), (3, .long ((1 : Int32).toInt64)), (0, .ref (t.2.1 0)), (1, .int ((nI n_))), (2, .int (w))]) hx hb dX13_odds_45 hl (by decide) rfl (fun ls hl => ?_)
      refine lv_iconst (v := 0) hx hb dX13_odds_47 (by decide) ?_
      refine lv_istore (lv' := [(8, .int (0)), (7, .int ((nI (p_free r)))), (5, .long ((1 : Int32).toInt64)), (3, .long ((1 : Int32).toInt64)), (0, .ref (t.2.1 0)), (1, .int ((nI n_))), (2, .int (w))]) hx hb dX13_odds_48 hl (by decide) rfl (fun ls hl => ?_)
      have lp_50 : ∀ (j k : Nat) (A : Nat) (B : Nat) (H : Heap) (locs : List Loc) (ls : Array Slot), k + j = n_ → (A = (p_free r) ^ k) → (B = 6 ^ k) → mW t (r) (x) H → va_S (mA t) s.heap H locs → lv_has ls 14 [(0, .ref (t.2.1 0)), (1, .int ((nI n_))), (2, .int (w)), (3, .long ((lN A))), (5, .long ((lN B))), (7, .int ((nI (p_free r)))), (8, .int ((nI k)))] → W p l e (rmF 2) s m ([.ref (t.2.1 0), .int (nI n_), .int w] : List Value).toArray below meth c H locs 0 0 (MQ below (kW (some (.long ((o_odds r (nI n_) w).1))) (mW t (r) (fx x (o_odds r (nI n_) w).2)) (mA t)) ([.ref (t.2.1 0), .int (nI n_), .int w] : List Value).toArray s 0 0 (mA t)) (F0 m 50 ls []) := by
        intro j
        induction j with
        | zero =>
          intro k A B H locs ls hkj hA hB hP hS hl
          refine lv_iload hx hb dX13_odds_50 (lv_at hl 6 rfl) ?_
          refine lv_iload_n hx hb dX13_odds_52 rfl (lv_at hl 1 rfl) ?_
          refine kb_ge_n (tgt := 76) (a := k) (b := n_) S rfl rfl (by omega) (by omega) dX13_odds_53 (by decide) (fun c_53 => ?_) (fun c_53 => ?_)
          · skip
            have hkn : n_ = k := by omega
            subst hkn
            subst hA
            subst hB
            refine lv_lload hx hb dX13_odds_76 (lv_at hl 4 rfl) ?_
            refine lv_lstore (lv' := [(8, .long ((lN (6 ^ n_)))), (0, .ref (t.2.1 0)), (1, .int ((nI n_))), (2, .int (w)), (3, .long ((lN ((p_free r) ^ n_)))), (5, .long ((lN (6 ^ n_)))), (7, .int ((nI (p_free r))))]) hx hb dX13_odds_78 hl (by decide) rfl (fun ls hl => ?_)
            refine lv_lload_n hx hb dX13_odds_80 rfl (lv_at hl 4 rfl) ?_
            refine lv_lstore (lv' := [(10, .long ((lN ((p_free r) ^ n_)))), (8, .long ((lN (6 ^ n_)))), (0, .ref (t.2.1 0)), (1, .int ((nI n_))), (2, .int (w)), (3, .long ((lN ((p_free r) ^ n_)))), (5, .long ((lN (6 ^ n_)))), (7, .int ((nI (p_free r))))]) hx hb dX13_odds_81 hl (by decide) rfl (fun ls hl => ?_)
            have lp_83 : ∀ (j : Nat) (a : Nat) (b0 : Nat) (H : Heap) (locs : List Loc) (ls : Array Slot), (b0 ≤ j) → (Nat.gcd a b0 = (p_gcd r n_)) → (a < 2 ^ 63) → (b0 < 2 ^ 63) → mW t (r) (x) H → va_S (mA t) s.heap H locs → lv_has ls 14 [(0, .ref (t.2.1 0)), (1, .int ((nI n_))), (2, .int (w)), (3, .long ((lN ((p_free r) ^ n_)))), (5, .long ((lN (6 ^ n_)))), (8, .long ((lN a))), (10, .long ((lN b0)))] → W p l e (rmF 2) s m ([.ref (t.2.1 0), .int (nI n_), .int w] : List Value).toArray below meth c H locs 0 0 (MQ below (kW (some (.long ((o_odds r (nI n_) w).1))) (mW t (r) (fx x (o_odds r (nI n_) w).2)) (mA t)) ([.ref (t.2.1 0), .int (nI n_), .int w] : List Value).toArray s 0 0 (mA t)) (F0 m 83 ls []) := by
              intro j
              induction j with
              | zero =>
                intro a b0 H locs ls hkj hg ha hb0 hP hS hl
                refine lv_lload hx hb dX13_odds_83 (lv_at hl 6 rfl) ?_
                refine lv_lconst (v := (0 : Int32).toInt64) hx hb dX13_odds_85 (by decide) ?_
                refine W.lcmp hx hb dX13_odds_86 ?_
                refine kb_lc_eq (tgt := 108) S dX13_odds_87 (by decide) (fun c_87 => ?_) (fun c_87 => ?_)
                · skip
                  have hz := (lz hb0).mp c_87
                  have hG : a = (p_gcd r n_) := by rw [← hg, hz, Nat.gcd_zero_right]
                  subst hG
                  have hg0 : ¬ (p_gcd r n_) = 0 := fun z => absurd (Nat.eq_zero_of_gcd_eq_zero_left z) (Nat.ne_of_gt (Nat.pow_pos (by decide)))
                  refine lv_iload_n hx hb dX13_odds_108 rfl (lv_at hl 2 rfl) ?_
                  refine lv_if_ne (tgt := 119) hx hb dX13_odds_109 (by decide) (fun c_109 => ?_) (fun c_109 => ?_)
                  · skip
                    refine lv_lload hx hb dX13_odds_119 (lv_at hl 4 rfl) ?_
                    refine lv_lload hx hb dX13_odds_121 (lv_at hl 5 rfl) ?_
                    refine lv_ldiv hx hb dX13_odds_123 (ln_ne ha hg0) ?_
                    exact kk_lretW S hr hlk hS (by simp only [o_odds, c_9, c_19, hcl_n_, reduceIte, and_self]; rw [if_neg c_109]; exact hP) (by simp only [o_odds, c_9, c_19, hcl_n_, reduceIte, and_self]; rw [if_neg c_109]; exact pk_lDiv (pw_lt (by decide) (by omega)) (by omega) ha) dX13_odds_124
                  · skip
                    refine lv_lload_n hx hb dX13_odds_112 rfl (lv_at hl 3 rfl) ?_
                    refine lv_lload hx hb dX13_odds_113 (lv_at hl 5 rfl) ?_
                    refine lv_ldiv hx hb dX13_odds_115 (ln_ne ha hg0) ?_
                    refine lv_goto (tgt := 124) hx hb dX13_odds_116 (by decide) ?_
                    exact kk_lretW S hr hlk hS (by simp only [o_odds, c_9, c_19, hcl_n_, reduceIte, and_self]; rw [if_pos c_109]; exact hP) (by simp only [o_odds, c_9, c_19, hcl_n_, reduceIte, and_self]; rw [if_pos c_109]; exact pk_lDiv (pw_lt hfr (by omega)) (by omega) ha) dX13_odds_124
                · exact absurd ((lz hb0).mpr (by omega)) c_87
              | succ j ih =>
                intro a b0 H locs ls hkj hg ha hb0 hP hS hl
                have ih_83 := ih
                refine lv_lload hx hb dX13_odds_83 (lv_at hl 6 rfl) ?_
                refine lv_lconst (v := (0 : Int32).toInt64) hx hb dX13_odds_85 (by decide) ?_
                refine W.lcmp hx hb dX13_odds_86 ?_
                refine kb_lc_eq (tgt := 108) S dX13_odds_87 (by decide) (fun c_87 => ?_) (fun c_87 => ?_)
                · skip
                  have hz := (lz hb0).mp c_87
                  have hG : a = (p_gcd r n_) := by rw [← hg, hz, Nat.gcd_zero_right]
                  subst hG
                  have hg0 : ¬ (p_gcd r n_) = 0 := fun z => absurd (Nat.eq_zero_of_gcd_eq_zero_left z) (Nat.ne_of_gt (Nat.pow_pos (by decide)))
                  refine lv_iload_n hx hb dX13_odds_108 rfl (lv_at hl 2 rfl) ?_
                  refine lv_if_ne (tgt := 119) hx hb dX13_odds_109 (by decide) (fun c_109 => ?_) (fun c_109 => ?_)
                  · skip
                    refine lv_lload hx hb dX13_odds_119 (lv_at hl 4 rfl) ?_
                    refine lv_lload hx hb dX13_odds_121 (lv_at hl 5 rfl) ?_
                    refine lv_ldiv hx hb dX13_odds_123 (ln_ne ha hg0) ?_
                    exact kk_lretW S hr hlk hS (by simp only [o_odds, c_9, c_19, hcl_n_, reduceIte, and_self]; rw [if_neg c_109]; exact hP) (by simp only [o_odds, c_9, c_19, hcl_n_, reduceIte, and_self]; rw [if_neg c_109]; exact pk_lDiv (pw_lt (by decide) (by omega)) (by omega) ha) dX13_odds_124
                  · skip
                    refine lv_lload_n hx hb dX13_odds_112 rfl (lv_at hl 3 rfl) ?_
                    refine lv_lload hx hb dX13_odds_113 (lv_at hl 5 rfl) ?_
                    refine lv_ldiv hx hb dX13_odds_115 (ln_ne ha hg0) ?_
                    refine lv_goto (tgt := 124) hx hb dX13_odds_116 (by decide) ?_
                    exact kk_lretW S hr hlk hS (by simp only [o_odds, c_9, c_19, hcl_n_, reduceIte, and_self]; rw [if_pos c_109]; exact hP) (by simp only [o_odds, c_9, c_19, hcl_n_, reduceIte, and_self]; rw [if_pos c_109]; exact pk_lDiv (pw_lt hfr (by omega)) (by omega) ha) dX13_odds_124
                · skip
                  have hz : ¬ b0 = 0 := fun z => c_87 ((lz hb0).mpr z)
                  refine lv_lload hx hb dX13_odds_90 (lv_at hl 5 rfl) ?_
                  refine lv_lload hx hb dX13_odds_92 (lv_at hl 6 rfl) ?_
                  refine lv_lrem hx hb dX13_odds_94 (ln_ne hb0 hz) ?_
                  refine kb_natl (y := lN (a % b0)) (pk_lRem ha (by omega) hb0) ?_
                  refine lv_lstore (lv' := [(12, .long ((lN (a % b0)))), (0, .ref (t.2.1 0)), (1, .int ((nI n_))), (2, .int (w)), (3, .long ((lN ((p_free r) ^ n_)))), (5, .long ((lN (6 ^ n_)))), (8, .long ((lN a))), (10, .long ((lN b0)))]) hx hb dX13_odds_95 hl (by decide) rfl (fun ls hl => ?_)
                  refine lv_lload hx hb dX13_odds_97 (lv_at hl 7 rfl) ?_
                  refine lv_lstore (lv' := [(8, .long ((lN b0))), (12, .long ((lN (a % b0)))), (0, .ref (t.2.1 0)), (1, .int ((nI n_))), (2, .int (w)), (3, .long ((lN ((p_free r) ^ n_)))), (5, .long ((lN (6 ^ n_)))), (10, .long ((lN b0)))]) hx hb dX13_odds_99 hl (by decide) rfl (fun ls hl => ?_)
                  refine lv_lload hx hb dX13_odds_101 (lv_at hl 1 rfl) ?_
                  refine lv_lstore (lv' := [(10, .long ((lN (a % b0)))), (8, .long ((lN b0))), (12, .long ((lN (a % b0)))), (0, .ref (t.2.1 0)), (1, .int ((nI n_))), (2, .int (w)), (3, .long ((lN ((p_free r) ^ n_)))), (5, .long ((lN (6 ^ n_))))]) hx hb dX13_odds_103 hl (by decide) rfl (fun ls hl => ?_)
                  refine lv_goto (tgt := 83) hx hb dX13_odds_105 (by decide) ?_
                  exact ih_83  b0 (a % b0) _ _ ls (by have := Nat.mod_lt a (show 0 < b0 by omega); omega) (by rw [← hg, Nat.gcd_comm b0, ← Nat.gcd_rec, Nat.gcd_comm]) (hb0) (by have := Nat.mod_lt a (show 0 < b0 by omega); omega) hP hS (lv_sub hl [3, 4, 5, 6, 7, 1, 0] rfl)
            exact lp_83 ((p_free r) ^ n_) (6 ^ n_) ((p_free r) ^ n_) _ _ ls (Nat.le_refl _) (rfl) (pw_lt (by decide) (by omega)) (pw_lt hfr (by omega)) hP hS (lv_sub hl [2, 3, 4, 5, 6, 1, 0] rfl)
          · exact absurd c_53 (by omega)
        | succ j ih =>
          intro k A B H locs ls hkj hA hB hP hS hl
          have ih_50 := ih
          refine lv_iload hx hb dX13_odds_50 (lv_at hl 6 rfl) ?_
          refine lv_iload_n hx hb dX13_odds_52 rfl (lv_at hl 1 rfl) ?_
          refine kb_ge_n (tgt := 76) (a := k) (b := n_) S rfl rfl (by omega) (by omega) dX13_odds_53 (by decide) (fun c_53 => ?_) (fun c_53 => ?_)
          · exact absurd c_53 (by omega)
          · skip
            refine lv_lload_n hx hb dX13_odds_56 rfl (lv_at hl 3 rfl) ?_
            refine lv_iload hx hb dX13_odds_57 (lv_at hl 5 rfl) ?_
            refine lv_i2l hx hb dX13_odds_59 rfl ?_
            refine lv_lmul hx hb dX13_odds_60 ?_
            refine kb_natl (y := lN (A * (p_free r))) (by rw [nI_l (by omega)]; exact lN_mul _ _) ?_
            refine lv_lstore_n (lv' := [(3, .long ((lN (A * (p_free r))))), (0, .ref (t.2.1 0)), (1, .int ((nI n_))), (2, .int (w)), (5, .long ((lN B))), (7, .int ((nI (p_free r)))), (8, .int ((nI k)))]) hx hb dX13_odds_61 rfl hl (by decide) rfl (fun ls hl => ?_)
            refine lv_lload hx hb dX13_odds_62 (lv_at hl 4 rfl) ?_
            refine lv_ldc2 (v := ((6) : Int32).toInt64) hx hb hown (hts _ q1336) dX13_odds_64 ?_
            refine lv_lmul hx hb dX13_odds_67 ?_
            refine kb_natl (y := lN (B * 6)) (lN_mul B 6) ?_
            refine lv_lstore (lv' := [(5, .long ((lN (B * 6)))), (3, .long ((lN (A * (p_free r))))), (0, .ref (t.2.1 0)), (1, .int ((nI n_))), (2, .int (w)), (7, .int ((nI (p_free r)))), (8, .int ((nI k)))]) hx hb dX13_odds_68 hl (by decide) rfl (fun ls hl => ?_)
            refine lv_iinc (v := (nI (k + 1))) (lv' := [(8, .int ((nI (k + 1)))), (5, .long ((lN (B * 6)))), (3, .long ((lN (A * (p_free r))))), (0, .ref (t.2.1 0)), (1, .int ((nI n_))), (2, .int (w)), (7, .int ((nI (p_free r))))]) hx hb dX13_odds_70 hl (k := 6) rfl (nn_1 rfl) (by decide) rfl (fun ls hl => ?_)
            refine lv_goto (tgt := 50) hx hb dX13_odds_73 (by decide) ?_
            exact ih_50 ((k + 1)) (A * (p_free r)) (B * 6) _ _ ls (by omega) (by rw [hA, Nat.pow_succ]) (by rw [hB, Nat.pow_succ]) hP hS (lv_sub hl [3, 4, 5, 2, 1, 6, 0] rfl)
      exact lp_50 n_ 0 1 1 _ _ ls (by omega) (by rfl) (by rfl) hP hS (lv_sub hl [4, 5, 6, 3, 2, 1, 0] rfl)
    · skip
      refine lv_aload_n hx hb dX13_odds_22 rfl (lv_at hl 0 rfl) ?_
      refine lv_ldc (v := (-1000001)) hx hb hown (hts _ q1305) dX13_odds_23 ?_
      refine c_finds S hK hP hS (rm_ok (Nat.le_of_ble_eq_true rfl)) hl.1 (0) (by decide) (by decide) (Nat.le_of_ble_eq_true rfl) dX13_odds_25 (fun H locs hP hS => ?_)
      refine lv_i2l hx hb dX13_odds_28 rfl ?_
      exact kk_lretW S hr hlk hS (by simp only [o_odds, c_9, c_19, reduceIte, and_self, fx]; exact hP) (by simp only [o_odds, c_9, c_19, reduceIte, and_self]; decide) dX13_odds_29

set_option maxHeartbeats 4000000 in
set_option maxRecDepth 100000 in
theorem k_copy (l : Launch) (t : MT) (r : Rw) (x : Nat → Rw) (v : Int32) (f : Int32) (u : Int32) (g : Int32) (n : Int32) (hs : mS x) : Met l yX13_copy (ws_ yX13_copy cX13_copy 10 (some .int)) (rmF 1) (va_Pc [.ref (t.2.1 0), .int v, .int f, .int u, .int g, .int n] (fun U => mK t U ∧ mW t r x U.heap)) (kW (some (.int ((o_copy (x 6) (mSv x) r v f u g n).1))) (mW t ((o_copy (x 6) (mSv x) r v f u g n).2.1) (cpx x v f u g n (o_copy (x 6) (mSv x) r v f u g n).2.2)) (mA t)) 0 0 (mA t) := by
  refine kk_start (by decide) (Nat.le_of_ble_eq_true rfl) ?_
  intro p e s m below meth c S hr hlk hin hB ls hl
  obtain ⟨hK, hP⟩ := hB
  have hx := S.1
  have hb := S.2.1
  have hown : s.vm.findClass RX13 = some m.cls := S.2.2.2.1
  have hts := S.2.2.2.2
  have hS : va_S (mA t) s.heap s.heap [] := va_S.rf
  have hl : lv_has ls 10 [(0, .ref (t.2.1 0)), (1, .int (v)), (2, .int (f)), (3, .int (u)), (4, .int (g)), (5, .int (n))] := hl
  refine lv_iload_n hx hb dX13_copy_0 rfl (lv_at hl 1 rfl) ?_
  refine c_isSheet S (rm_ok (Nat.le_of_ble_eq_true rfl)) hl.1 (Nat.le_of_ble_eq_true rfl) dX13_copy_1 ?_
  refine kb_ifeq (tgt := 14) S dX13_copy_4 (by decide) (fun c_4 => ?_) (fun c_4 => ?_)
  · skip
    refine lv_aload_n hx hb dX13_copy_14 rfl (lv_at hl 0 rfl) ?_
    refine lv_ldc (v := (-1000001)) hx hb hown (hts _ q1305) dX13_copy_15 ?_
    refine c_finds S hK hP hS (rm_ok (Nat.le_of_ble_eq_true rfl)) hl.1 (0) (by decide) (by decide) (Nat.le_of_ble_eq_true rfl) dX13_copy_17 (fun H locs hP hS => ?_)
    exact kk_iretW S hr hlk hS (by simp only [o_copy, c_4, reduceIte, and_self, oF, cpx]; exact hP) (by simp only [o_copy, c_4, reduceIte, and_self, oF]; decide) dX13_copy_20
  · skip
    obtain ⟨v_, hv_, rfl⟩ := nat_of_lt (n := 4) (rfl) (by omega) c_4
    have hcl_v_ := nI_clamp (n := v_) (by omega)
    have hsv : x 7 v_ = nI (x 7 v_).toNatClampNeg ∧ (x 7 v_).toNatClampNeg ≤ 40 := by obtain ⟨q, h1, h2⟩ := hs v_ hv_; exact pv_x h2 h1 (by decide)
    have hsv1 := hsv.1
    have hsv2 := hsv.2
    refine lv_iload_n hx hb dX13_copy_7 rfl (lv_at hl 3 rfl) ?_
    refine c_isSheet S (rm_ok (Nat.le_of_ble_eq_true rfl)) hl.1 (Nat.le_of_ble_eq_true rfl) dX13_copy_8 ?_
    refine kb_ifne (tgt := 21) S dX13_copy_11 (by decide) (fun c_11 => ?_) (fun c_11 => ?_)
    · skip
      obtain ⟨u_, hu_, rfl⟩ := nat_of_lt (n := 4) (rfl) (by omega) c_11
      have hcl_u_ := nI_clamp (n := u_) (by omega)
      have hsu : x 7 u_ = nI (x 7 u_).toNatClampNeg ∧ (x 7 u_).toNatClampNeg ≤ 40 := by obtain ⟨q, h1, h2⟩ := hs u_ hu_; exact pv_x h2 h1 (by decide)
      have hsu1 := hsu.1
      have hsu2 := hsu.2
      refine lv_aload_n hx hb dX13_copy_21 rfl (lv_at hl 0 rfl) ?_
      refine mg_bitsOf S hK hP dX13_copy_22 ?_
      refine lv_iload_n hx hb dX13_copy_25 rfl (lv_at hl 1 rfl) ?_
      refine mk_ld6 S hK hP (v_) (by omega) rfl dX13_copy_26 ?_
      refine lv_if_lt (tgt := 39) hx hb dX13_copy_27 (by decide) (fun c_27 => ?_) (fun c_27 => ?_)
      · skip
        refine lv_aload_n hx hb dX13_copy_39 rfl (lv_at hl 0 rfl) ?_
        refine lv_ldcw (v := (-1000006)) hx hb hown (hts _ q1543) dX13_copy_40 ?_
        refine c_finds S hK hP hS (rm_ok (Nat.le_of_ble_eq_true rfl)) hl.1 (5) (by decide) (by decide) (Nat.le_of_ble_eq_true rfl) dX13_copy_43 (fun H locs hP hS => ?_)
        exact kk_iretW S hr hlk hS (by simp only [o_copy, c_4, c_11, hcl_v_, hcl_u_, mSv_n c_27, reduceIte, and_self, oF, cpx]; exact hP) (by simp only [o_copy, c_4, c_11, hcl_v_, hcl_u_, mSv_n c_27, reduceIte, and_self, oF]; decide) dX13_copy_46
      · skip
        refine lv_aload_n hx hb dX13_copy_30 rfl (lv_at hl 0 rfl) ?_
        refine mg_bitsOf S hK hP dX13_copy_31 ?_
        refine lv_iload_n hx hb dX13_copy_34 rfl (lv_at hl 3 rfl) ?_
        refine mk_ld6 S hK hP (u_) (by omega) rfl dX13_copy_35 ?_
        refine lv_if_ge (tgt := 47) hx hb dX13_copy_36 (by decide) (fun c_36 => ?_) (fun c_36 => ?_)
        · skip
          refine lv_aload_n hx hb dX13_copy_47 rfl (lv_at hl 0 rfl) ?_
          refine mg_bitsOf S hK hP dX13_copy_48 ?_
          refine lv_iload_n hx hb dX13_copy_51 rfl (lv_at hl 1 rfl) ?_
          refine mk_ld6 S hK hP (v_) (by omega) rfl dX13_copy_52 ?_
          refine lv_aload_n hx hb dX13_copy_53 rfl (lv_at hl 0 rfl) ?_
          refine mg_bitsOf S hK hP dX13_copy_54 ?_
          refine lv_iload_n hx hb dX13_copy_57 rfl (lv_at hl 3 rfl) ?_
          refine mk_ld6 S hK hP (u_) (by omega) rfl dX13_copy_58 ?_
          refine lv_icmp_eq (tgt := 70) hx hb dX13_copy_59 (by decide) (fun c_59 => ?_) (fun c_59 => ?_)
          · skip
            refine lv_iload_n hx hb dX13_copy_70 rfl (lv_at hl 2 rfl) ?_
            refine lv_if_lt (tgt := 111) hx hb dX13_copy_71 (by decide) (fun c_71 => ?_) (fun c_71 => ?_)
            · skip
              have hbad : ¬ (0 ≤ f ∧ 0 ≤ g ∧ 0 ≤ n ∧ n ≤ x 7 v_ - f ∧ n ≤ x 7 u_ - g) := by grind
              refine lv_aload_n hx hb dX13_copy_111 rfl (lv_at hl 0 rfl) ?_
              refine lv_ldc (v := (-1000001)) hx hb hown (hts _ q1305) dX13_copy_112 ?_
              refine c_finds S hK hP hS (rm_ok (Nat.le_of_ble_eq_true rfl)) hl.1 (0) (by decide) (by decide) (Nat.le_of_ble_eq_true rfl) dX13_copy_114 (fun H locs hP hS => ?_)
              exact kk_iretW S hr hlk hS (by simp only [o_copy, c_4, c_11, hcl_v_, hcl_u_, mSv_y c_27, mSv_y (Int32.not_lt.mpr c_36), c_59, ← hsv1, ← hsu1, hbad, reduceIte, and_self, oF, cpx]; exact hP) (by simp only [o_copy, c_4, c_11, hcl_v_, hcl_u_, mSv_y c_27, mSv_y (Int32.not_lt.mpr c_36), c_59, ← hsv1, ← hsu1, hbad, reduceIte, and_self, oF]; decide) dX13_copy_117
            · skip
              refine lv_iload hx hb dX13_copy_74 (lv_at hl 4 rfl) ?_
              refine lv_if_lt (tgt := 111) hx hb dX13_copy_76 (by decide) (fun c_76 => ?_) (fun c_76 => ?_)
              · skip
                have hbad : ¬ (0 ≤ f ∧ 0 ≤ g ∧ 0 ≤ n ∧ n ≤ x 7 v_ - f ∧ n ≤ x 7 u_ - g) := by grind
                refine lv_aload_n hx hb dX13_copy_111 rfl (lv_at hl 0 rfl) ?_
                refine lv_ldc (v := (-1000001)) hx hb hown (hts _ q1305) dX13_copy_112 ?_
                refine c_finds S hK hP hS (rm_ok (Nat.le_of_ble_eq_true rfl)) hl.1 (0) (by decide) (by decide) (Nat.le_of_ble_eq_true rfl) dX13_copy_114 (fun H locs hP hS => ?_)
                exact kk_iretW S hr hlk hS (by simp only [o_copy, c_4, c_11, hcl_v_, hcl_u_, mSv_y c_27, mSv_y (Int32.not_lt.mpr c_36), c_59, ← hsv1, ← hsu1, hbad, reduceIte, and_self, oF, cpx]; exact hP) (by simp only [o_copy, c_4, c_11, hcl_v_, hcl_u_, mSv_y c_27, mSv_y (Int32.not_lt.mpr c_36), c_59, ← hsv1, ← hsu1, hbad, reduceIte, and_self, oF]; decide) dX13_copy_117
              · skip
                refine lv_iload hx hb dX13_copy_79 (lv_at hl 5 rfl) ?_
                refine lv_if_lt (tgt := 111) hx hb dX13_copy_81 (by decide) (fun c_81 => ?_) (fun c_81 => ?_)
                · skip
                  have hbad : ¬ (0 ≤ f ∧ 0 ≤ g ∧ 0 ≤ n ∧ n ≤ x 7 v_ - f ∧ n ≤ x 7 u_ - g) := by grind
                  refine lv_aload_n hx hb dX13_copy_111 rfl (lv_at hl 0 rfl) ?_
                  refine lv_ldc (v := (-1000001)) hx hb hown (hts _ q1305) dX13_copy_112 ?_
                  refine c_finds S hK hP hS (rm_ok (Nat.le_of_ble_eq_true rfl)) hl.1 (0) (by decide) (by decide) (Nat.le_of_ble_eq_true rfl) dX13_copy_114 (fun H locs hP hS => ?_)
                  exact kk_iretW S hr hlk hS (by simp only [o_copy, c_4, c_11, hcl_v_, hcl_u_, mSv_y c_27, mSv_y (Int32.not_lt.mpr c_36), c_59, ← hsv1, ← hsu1, hbad, reduceIte, and_self, oF, cpx]; exact hP) (by simp only [o_copy, c_4, c_11, hcl_v_, hcl_u_, mSv_y c_27, mSv_y (Int32.not_lt.mpr c_36), c_59, ← hsv1, ← hsu1, hbad, reduceIte, and_self, oF]; decide) dX13_copy_117
                · skip
                  refine lv_iload hx hb dX13_copy_84 (lv_at hl 5 rfl) ?_
                  refine lv_aload_n hx hb dX13_copy_86 rfl (lv_at hl 0 rfl) ?_
                  refine mg_sizes S hK hP dX13_copy_87 ?_
                  refine lv_iload_n hx hb dX13_copy_90 rfl (lv_at hl 1 rfl) ?_
                  refine mk_ld7 S hK hP (v_) (by omega) rfl dX13_copy_91 ?_
                  refine lv_iload_n hx hb dX13_copy_92 rfl (lv_at hl 2 rfl) ?_
                  refine lv_isub hx hb dX13_copy_93 ?_
                  refine lv_icmp_gt (tgt := 111) hx hb dX13_copy_94 (by decide) (fun c_94 => ?_) (fun c_94 => ?_)
                  · skip
                    have hbad : ¬ (0 ≤ f ∧ 0 ≤ g ∧ 0 ≤ n ∧ n ≤ x 7 v_ - f ∧ n ≤ x 7 u_ - g) := by grind
                    refine lv_aload_n hx hb dX13_copy_111 rfl (lv_at hl 0 rfl) ?_
                    refine lv_ldc (v := (-1000001)) hx hb hown (hts _ q1305) dX13_copy_112 ?_
                    refine c_finds S hK hP hS (rm_ok (Nat.le_of_ble_eq_true rfl)) hl.1 (0) (by decide) (by decide) (Nat.le_of_ble_eq_true rfl) dX13_copy_114 (fun H locs hP hS => ?_)
                    exact kk_iretW S hr hlk hS (by simp only [o_copy, c_4, c_11, hcl_v_, hcl_u_, mSv_y c_27, mSv_y (Int32.not_lt.mpr c_36), c_59, ← hsv1, ← hsu1, hbad, reduceIte, and_self, oF, cpx]; exact hP) (by simp only [o_copy, c_4, c_11, hcl_v_, hcl_u_, mSv_y c_27, mSv_y (Int32.not_lt.mpr c_36), c_59, ← hsv1, ← hsu1, hbad, reduceIte, and_self, oF]; decide) dX13_copy_117
                  · skip
                    refine lv_iload hx hb dX13_copy_97 (lv_at hl 5 rfl) ?_
                    refine lv_aload_n hx hb dX13_copy_99 rfl (lv_at hl 0 rfl) ?_
                    refine mg_sizes S hK hP dX13_copy_100 ?_
                    refine lv_iload_n hx hb dX13_copy_103 rfl (lv_at hl 3 rfl) ?_
                    refine mk_ld7 S hK hP (u_) (by omega) rfl dX13_copy_104 ?_
                    refine lv_iload hx hb dX13_copy_105 (lv_at hl 4 rfl) ?_
                    refine lv_isub hx hb dX13_copy_107 ?_
                    refine lv_icmp_le (tgt := 118) hx hb dX13_copy_108 (by decide) (fun c_108 => ?_) (fun c_108 => ?_)
                    · skip
                      have hok : (0 ≤ f ∧ 0 ≤ g ∧ 0 ≤ n ∧ n ≤ x 7 v_ - f ∧ n ≤ x 7 u_ - g) := by grind
                      obtain ⟨f_, n_, rfl, rfl, hfn⟩ := cp_nat hsv2 hok.1 hok.2.2.1 (hsv1 ▸ hok.2.2.2.1)
                      obtain ⟨g_, m_, rfl, hnm, hgn⟩ := cp_nat hsu2 hok.2.1 hok.2.2.1 (hsu1 ▸ hok.2.2.2.2)
                      have hcl_f_ := nI_clamp (n := f_) (by omega)
                      have hcl_g_ := nI_clamp (n := g_) (by omega)
                      have hcl_n_ := nI_clamp (n := n_) (by omega)
                      have hm_ : n_ = m_ := (nI_eq (by omega) (by omega)).mp hnm
                      refine lv_bipush (v := 40) hx hb dX13_copy_118 (by decide) ?_
                      refine lv_iload_n hx hb dX13_copy_120 rfl (lv_at hl 1 rfl) ?_
                      refine lv_imul hx hb dX13_copy_121 ?_
                      refine lv_iload_n hx hb dX13_copy_122 rfl (lv_at hl 2 rfl) ?_
                      refine lv_iadd hx hb dX13_copy_123 ?_
                      refine kb_nat (y := nI (((40 * v_) + f_))) (nn_add (nn_mul rfl rfl) rfl) ?_
                      refine lv_istore (lv' := [(6, .int ((nI ((40 * v_) + f_)))), (0, .ref (t.2.1 0)), (1, .int ((nI v_))), (2, .int ((nI f_))), (3, .int ((nI u_))), (4, .int ((nI g_))), (5, .int ((nI n_)))]) hx hb dX13_copy_124 hl (by decide) rfl (fun ls hl => ?_)
                      refine lv_bipush (v := 40) hx hb dX13_copy_126 (by decide) ?_
                      refine lv_iload_n hx hb dX13_copy_128 rfl (lv_at hl 4 rfl) ?_
                      refine lv_imul hx hb dX13_copy_129 ?_
                      refine lv_iload hx hb dX13_copy_130 (lv_at hl 5 rfl) ?_
                      refine lv_iadd hx hb dX13_copy_132 ?_
                      refine kb_nat (y := nI (((40 * u_) + g_))) (nn_add (nn_mul rfl rfl) rfl) ?_
                      refine lv_istore (lv' := [(7, .int ((nI ((40 * u_) + g_)))), (6, .int ((nI ((40 * v_) + f_)))), (0, .ref (t.2.1 0)), (1, .int ((nI v_))), (2, .int ((nI f_))), (3, .int ((nI u_))), (4, .int ((nI g_))), (5, .int ((nI n_)))]) hx hb dX13_copy_133 hl (by decide) rfl (fun ls hl => ?_)
                      refine lv_iconst (v := 0) hx hb dX13_copy_135 (by decide) ?_
                      refine lv_istore (lv' := [(8, .int (0)), (7, .int ((nI ((40 * u_) + g_)))), (6, .int ((nI ((40 * v_) + f_)))), (0, .ref (t.2.1 0)), (1, .int ((nI v_))), (2, .int ((nI f_))), (3, .int ((nI u_))), (4, .int ((nI g_))), (5, .int ((nI n_)))]) hx hb dX13_copy_136 hl (by decide) rfl (fun ls hl => ?_)
                      rw [← va_eta x 8] at hP
                      have lp_138 : ∀ (j k : Nat) (f8 : Rw) (H : Heap) (locs : List Loc) (ls : Array Slot), k + j = n_ → (lp (p_cpf (40 * v_ + f_) (40 * u_ + g_) n_) j k f8 = p_cp (x 8) (40 * v_ + f_) (40 * u_ + g_) n_) → mW t (r) ((va_up x 8 f8)) H → va_S (mA t) s.heap H locs → lv_has ls 10 [(0, .ref (t.2.1 0)), (1, .int ((nI v_))), (2, .int ((nI f_))), (3, .int ((nI u_))), (4, .int ((nI g_))), (5, .int ((nI n_))), (6, .int ((nI ((40 * v_) + f_)))), (7, .int ((nI ((40 * u_) + g_)))), (8, .int ((nI k)))] → W p l e (rmF 1) s m ([.ref (t.2.1 0), .int (nI v_), .int (nI f_), .int (nI u_), .int (nI g_), .int (nI n_)] : List Value).toArray below meth c H locs 0 0 (MQ below (kW (some (.int ((o_copy (x 6) (mSv x) r (nI v_) (nI f_) (nI u_) (nI g_) (nI n_)).1))) (mW t ((o_copy (x 6) (mSv x) r (nI v_) (nI f_) (nI u_) (nI g_) (nI n_)).2.1) (cpx x (nI v_) (nI f_) (nI u_) (nI g_) (nI n_) (o_copy (x 6) (mSv x) r (nI v_) (nI f_) (nI u_) (nI g_) (nI n_)).2.2)) (mA t)) ([.ref (t.2.1 0), .int (nI v_), .int (nI f_), .int (nI u_), .int (nI g_), .int (nI n_)] : List Value).toArray s 0 0 (mA t)) (F0 m 138 ls []) := by
                        intro j
                        induction j with
                        | zero =>
                          intro k f8 H locs ls hkj he hP hS hl
                          refine lv_iload hx hb dX13_copy_138 (lv_at hl 8 rfl) ?_
                          refine lv_iload hx hb dX13_copy_140 (lv_at hl 5 rfl) ?_
                          refine kb_ge_n (tgt := 192) (a := k) (b := n_) S rfl rfl (by omega) (by omega) dX13_copy_142 (by decide) (fun c_142 => ?_) (fun c_142 => ?_)
                          · skip
                            refine lv_iload hx hb dX13_copy_192 (lv_at hl 5 rfl) ?_
                            exact kk_iretW S hr hlk hS (by simp only [o_copy, c_4, c_11, hcl_v_, hcl_u_, mSv_y c_27, mSv_y (Int32.not_lt.mpr c_36), c_59, ← hsv1, ← hsu1, hok, hcl_f_, hcl_g_, hcl_n_, reduceIte, and_self, oK, cpx]; rw [← he]; exact hP) (by simp only [o_copy, c_4, c_11, hcl_v_, hcl_u_, mSv_y c_27, mSv_y (Int32.not_lt.mpr c_36), c_59, ← hsv1, ← hsu1, hok, reduceIte, and_self, oK]) dX13_copy_194
                          · exact absurd c_142 (by omega)
                        | succ j ih =>
                          intro k f8 H locs ls hkj he hP hS hl
                          have ih_138 := ih
                          refine lv_iload hx hb dX13_copy_138 (lv_at hl 8 rfl) ?_
                          refine lv_iload hx hb dX13_copy_140 (lv_at hl 5 rfl) ?_
                          refine kb_ge_n (tgt := 192) (a := k) (b := n_) S rfl rfl (by omega) (by omega) dX13_copy_142 (by decide) (fun c_142 => ?_) (fun c_142 => ?_)
                          · exact absurd c_142 (by omega)
                          · skip
                            refine lv_iload hx hb dX13_copy_145 (lv_at hl 6 rfl) ?_
                            refine lv_iload hx hb dX13_copy_147 (lv_at hl 7 rfl) ?_
                            refine kb_ge_n (tgt := 162) (a := ((40 * v_) + f_)) (b := ((40 * u_) + g_)) S rfl rfl (by omega) (by omega) dX13_copy_149 (by decide) (fun c_149 => ?_) (fun c_149 => ?_)
                            · skip
                              refine lv_iload hx hb dX13_copy_162 (lv_at hl 8 rfl) ?_
                              refine lv_istore (lv' := [(9, .int ((nI k))), (0, .ref (t.2.1 0)), (1, .int ((nI v_))), (2, .int ((nI f_))), (3, .int ((nI u_))), (4, .int ((nI g_))), (5, .int ((nI n_))), (6, .int ((nI ((40 * v_) + f_)))), (7, .int ((nI ((40 * u_) + g_)))), (8, .int ((nI k)))]) hx hb dX13_copy_164 hl (by decide) rfl (fun ls hl => ?_)
                              refine lv_aload_n hx hb dX13_copy_166 rfl (lv_at hl 1 rfl) ?_
                              refine mg_numbers S hK hP dX13_copy_167 ?_
                              refine lv_iload hx hb dX13_copy_170 (lv_at hl 8 rfl) ?_
                              refine lv_iload hx hb dX13_copy_172 (lv_at hl 0 rfl) ?_
                              refine lv_iadd hx hb dX13_copy_174 ?_
                              refine lv_aload_n hx hb dX13_copy_175 rfl (lv_at hl 1 rfl) ?_
                              refine mg_numbers S hK hP dX13_copy_176 ?_
                              refine lv_iload hx hb dX13_copy_179 (lv_at hl 7 rfl) ?_
                              refine lv_iload hx hb dX13_copy_181 (lv_at hl 0 rfl) ?_
                              refine lv_iadd hx hb dX13_copy_183 ?_
                              refine mk_ld8 S hK hP ((((40 * v_) + f_) + k)) (by omega) (nn_add rfl rfl) dX13_copy_184 ?_
                              refine mk_st8 S hK hP hS ((((40 * u_) + g_) + k)) (by omega) (nn_add rfl rfl) dX13_copy_185 (fun H locs hP hS => ?_)
                              rw [bx_uu] at hP
                              refine lv_iinc (v := (nI (k + 1))) (lv' := [(8, .int ((nI (k + 1)))), (9, .int ((nI k))), (0, .ref (t.2.1 0)), (1, .int ((nI v_))), (2, .int ((nI f_))), (3, .int ((nI u_))), (4, .int ((nI g_))), (5, .int ((nI n_))), (6, .int ((nI ((40 * v_) + f_)))), (7, .int ((nI ((40 * u_) + g_))))]) hx hb dX13_copy_186 hl (k := 9) rfl (nn_1 rfl) (by decide) rfl (fun ls hl => ?_)
                              refine lv_goto (tgt := 138) hx hb dX13_copy_189 (by decide) ?_
                              exact ih_138 ((k + 1)) (upd f8 ((40 * u_ + g_) + k) (f8 ((40 * v_ + f_) + k))) _ _ ls (by omega) (by have h := he; rw [lp, p_cpf] at h; simp only [if_neg (Nat.not_lt.mpr c_149)] at h; exact h) hP hS (lv_sub hl [2, 3, 4, 5, 6, 7, 8, 9, 0] rfl)
                            · skip
                              refine lv_iload hx hb dX13_copy_152 (lv_at hl 5 rfl) ?_
                              refine lv_iconst (v := 1) hx hb dX13_copy_154 (by decide) ?_
                              refine lv_isub hx hb dX13_copy_155 ?_
                              refine lv_iload hx hb dX13_copy_156 (lv_at hl 8 rfl) ?_
                              refine lv_isub hx hb dX13_copy_158 ?_
                              refine lv_goto (tgt := 164) hx hb dX13_copy_159 (by decide) ?_
                              refine kb_nat (y := nI (((n_ - 1) - k))) (nn_sub (nn_sub rfl rfl (by omega)) rfl (by omega)) ?_
                              refine lv_istore (lv' := [(9, .int ((nI ((n_ - 1) - k)))), (0, .ref (t.2.1 0)), (1, .int ((nI v_))), (2, .int ((nI f_))), (3, .int ((nI u_))), (4, .int ((nI g_))), (5, .int ((nI n_))), (6, .int ((nI ((40 * v_) + f_)))), (7, .int ((nI ((40 * u_) + g_)))), (8, .int ((nI k)))]) hx hb dX13_copy_164 hl (by decide) rfl (fun ls hl => ?_)
                              refine lv_aload_n hx hb dX13_copy_166 rfl (lv_at hl 1 rfl) ?_
                              refine mg_numbers S hK hP dX13_copy_167 ?_
                              refine lv_iload hx hb dX13_copy_170 (lv_at hl 8 rfl) ?_
                              refine lv_iload hx hb dX13_copy_172 (lv_at hl 0 rfl) ?_
                              refine lv_iadd hx hb dX13_copy_174 ?_
                              refine lv_aload_n hx hb dX13_copy_175 rfl (lv_at hl 1 rfl) ?_
                              refine mg_numbers S hK hP dX13_copy_176 ?_
                              refine lv_iload hx hb dX13_copy_179 (lv_at hl 7 rfl) ?_
                              refine lv_iload hx hb dX13_copy_181 (lv_at hl 0 rfl) ?_
                              refine lv_iadd hx hb dX13_copy_183 ?_
                              refine mk_ld8 S hK hP ((((40 * v_) + f_) + ((n_ - 1) - k))) (by omega) (nn_add rfl rfl) dX13_copy_184 ?_
                              refine mk_st8 S hK hP hS ((((40 * u_) + g_) + ((n_ - 1) - k))) (by omega) (nn_add rfl rfl) dX13_copy_185 (fun H locs hP hS => ?_)
                              rw [bx_uu] at hP
                              refine lv_iinc (v := (nI (k + 1))) (lv' := [(8, .int ((nI (k + 1)))), (9, .int ((nI ((n_ - 1) - k)))), (0, .ref (t.2.1 0)), (1, .int ((nI v_))), (2, .int ((nI f_))), (3, .int ((nI u_))), (4, .int ((nI g_))), (5, .int ((nI n_))), (6, .int ((nI ((40 * v_) + f_)))), (7, .int ((nI ((40 * u_) + g_))))]) hx hb dX13_copy_186 hl (k := 9) rfl (nn_1 rfl) (by decide) rfl (fun ls hl => ?_)
                              refine lv_goto (tgt := 138) hx hb dX13_copy_189 (by decide) ?_
                              exact ih_138 ((k + 1)) (upd f8 ((40 * u_ + g_) + (n_ - 1 - k)) (f8 ((40 * v_ + f_) + (n_ - 1 - k)))) _ _ ls (by omega) (by have h := he; rw [lp, p_cpf] at h; simp only [if_pos c_149] at h; exact h) hP hS (lv_sub hl [2, 3, 4, 5, 6, 7, 8, 9, 0] rfl)
                      exact lp_138 n_ 0 _ _ _ ls (by omega) (rfl) hP hS (lv_sub hl [3, 4, 5, 6, 7, 8, 2, 1, 0] rfl)
                    · skip
                      have hbad : ¬ (0 ≤ f ∧ 0 ≤ g ∧ 0 ≤ n ∧ n ≤ x 7 v_ - f ∧ n ≤ x 7 u_ - g) := by grind
                      refine lv_aload_n hx hb dX13_copy_111 rfl (lv_at hl 0 rfl) ?_
                      refine lv_ldc (v := (-1000001)) hx hb hown (hts _ q1305) dX13_copy_112 ?_
                      refine c_finds S hK hP hS (rm_ok (Nat.le_of_ble_eq_true rfl)) hl.1 (0) (by decide) (by decide) (Nat.le_of_ble_eq_true rfl) dX13_copy_114 (fun H locs hP hS => ?_)
                      exact kk_iretW S hr hlk hS (by simp only [o_copy, c_4, c_11, hcl_v_, hcl_u_, mSv_y c_27, mSv_y (Int32.not_lt.mpr c_36), c_59, ← hsv1, ← hsu1, hbad, reduceIte, and_self, oF, cpx]; exact hP) (by simp only [o_copy, c_4, c_11, hcl_v_, hcl_u_, mSv_y c_27, mSv_y (Int32.not_lt.mpr c_36), c_59, ← hsv1, ← hsu1, hbad, reduceIte, and_self, oF]; decide) dX13_copy_117
          · skip
            refine lv_aload_n hx hb dX13_copy_62 rfl (lv_at hl 0 rfl) ?_
            refine lv_ldcw (v := (-1000003)) hx hb hown (hts _ q1664) dX13_copy_63 ?_
            refine c_finds S hK hP hS (rm_ok (Nat.le_of_ble_eq_true rfl)) hl.1 (2) (by decide) (by decide) (Nat.le_of_ble_eq_true rfl) dX13_copy_66 (fun H locs hP hS => ?_)
            exact kk_iretW S hr hlk hS (by simp only [o_copy, c_4, c_11, hcl_v_, hcl_u_, mSv_y c_27, mSv_y (Int32.not_lt.mpr c_36), c_59, reduceIte, and_self, oF, cpx]; exact hP) (by simp only [o_copy, c_4, c_11, hcl_v_, hcl_u_, mSv_y c_27, mSv_y (Int32.not_lt.mpr c_36), c_59, reduceIte, and_self, oF]; decide) dX13_copy_69
        · skip
          refine lv_aload_n hx hb dX13_copy_39 rfl (lv_at hl 0 rfl) ?_
          refine lv_ldcw (v := (-1000006)) hx hb hown (hts _ q1543) dX13_copy_40 ?_
          refine c_finds S hK hP hS (rm_ok (Nat.le_of_ble_eq_true rfl)) hl.1 (5) (by decide) (by decide) (Nat.le_of_ble_eq_true rfl) dX13_copy_43 (fun H locs hP hS => ?_)
          exact kk_iretW S hr hlk hS (by simp only [o_copy, c_4, c_11, hcl_v_, hcl_u_, mSv_y c_27, mSv_n (Int32.not_le.mp c_36), reduceIte, and_self, oF, cpx]; exact hP) (by simp only [o_copy, c_4, c_11, hcl_v_, hcl_u_, mSv_y c_27, mSv_n (Int32.not_le.mp c_36), reduceIte, and_self, oF]; decide) dX13_copy_46
    · skip
      refine lv_aload_n hx hb dX13_copy_14 rfl (lv_at hl 0 rfl) ?_
      refine lv_ldc (v := (-1000001)) hx hb hown (hts _ q1305) dX13_copy_15 ?_
      refine c_finds S hK hP hS (rm_ok (Nat.le_of_ble_eq_true rfl)) hl.1 (0) (by decide) (by decide) (Nat.le_of_ble_eq_true rfl) dX13_copy_17 (fun H locs hP hS => ?_)
      exact kk_iretW S hr hlk hS (by simp only [o_copy, c_4, c_11, reduceIte, and_self, oF, cpx]; exact hP) (by simp only [o_copy, c_4, c_11, reduceIte, and_self, oF]; decide) dX13_copy_20

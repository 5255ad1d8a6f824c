set_option maxHeartbeats 4000000 in
set_option maxRecDepth 100000 in
theorem k_sheet (l : Launch) (t : MT) (r : Rw) (x : Nat → Rw) (v : Int32) (w : Int32) (n : Int32) : Met l yX13_sheet (ws_ yX13_sheet cX13_sheet 5 (some .int)) (rmF 1) (va_Pc [.ref (t.2.1 0), .int v, .int w, .int n] (fun U => mK t U ∧ mW t r x U.heap)) (kW (some (.int ((o_sheet r v w n).1))) (mW t ((o_sheet r v w n).2.1) (shx x v w n (o_sheet r v w n).2.2)) (mA t)) 0 0 (mA t) := by
  refine kk_start (by decide) (Nat.le_of_ble_eq_true rfl) ?_
  intro p e s m below meth c S hr hlk hin hB ls hl
  obtain ⟨hK, hP⟩ := hB
  have hx := S.1
  have hb := S.2.1
  have hown : s.vm.findClass RX13 = some m.cls := S.2.2.2.1
  have hts := S.2.2.2.2
  have hS : va_S (mA t) s.heap s.heap [] := va_S.rf
  have hl : lv_has ls 5 [(0, .ref (t.2.1 0)), (1, .int (v)), (2, .int (w)), (3, .int (n))] := hl
  refine lv_iload_n hx hb dX13_sheet_0 rfl (lv_at hl 1 rfl) ?_
  refine c_isSheet S (rm_ok (Nat.le_of_ble_eq_true rfl)) hl.1 (Nat.le_of_ble_eq_true rfl) dX13_sheet_1 ?_
  refine kb_ifeq (tgt := 29) S dX13_sheet_4 (by decide) (fun c_4 => ?_) (fun c_4 => ?_)
  · skip
    refine lv_aload_n hx hb dX13_sheet_29 rfl (lv_at hl 0 rfl) ?_
    refine lv_ldc (v := (-1000001)) hx hb hown (hts _ q1305) dX13_sheet_30 ?_
    refine c_finds S hK hP hS (rm_ok (Nat.le_of_ble_eq_true rfl)) hl.1 (0) (by decide) (by decide) (Nat.le_of_ble_eq_true rfl) dX13_sheet_32 (fun H locs hP hS => ?_)
    exact kk_iretW S hr hlk hS (by simp only [o_sheet, c_4, reduceIte, and_self, oF, oK, fx, shx]; exact hP) (by simp only [o_sheet, c_4, reduceIte, and_self, oF, oK, fnd, shx] <;> first | rfl | decide) dX13_sheet_35
  · skip
    obtain ⟨v_, hv_, rfl⟩ := nat_of_lt (n := 4) (rfl) (by omega) c_4
    have hcl_v_ := nI_clamp (n := v_) (by omega)
    have cut_36 : ∀ (H : Heap) (locs : List Loc) (ls : Array Slot), (w = 0 ∨ w = 8 ∨ w = 16 ∨ w = 32) → mW t (r) (x) H → va_S (mA t) s.heap H locs → lv_has ls 5 [(0, .ref (t.2.1 0)), (1, .int ((nI v_))), (2, .int (w)), (3, .int (n))] → W p l e (rmF 1) s m ([.ref (t.2.1 0), .int (nI v_), .int w, .int n] : List Value).toArray below meth c H locs 0 0 (MQ below (kW (some (.int ((o_sheet r (nI v_) w n).1))) (mW t ((o_sheet r (nI v_) w n).2.1) (shx x (nI v_) w n (o_sheet r (nI v_) w n).2.2)) (mA t)) ([.ref (t.2.1 0), .int (nI v_), .int w, .int n] : List Value).toArray s 0 0 (mA t)) (F0 m 36 ls []) := by
      intro H locs ls hbits hP hS hl
      refine lv_iload_n hx hb dX13_sheet_36 rfl (lv_at hl 3 rfl) ?_
      refine lv_if_ge (tgt := 48) hx hb dX13_sheet_37 (by decide) (fun c_37 => ?_) (fun c_37 => ?_)
      · skip
        refine lv_iload_n hx hb dX13_sheet_48 rfl (lv_at hl 3 rfl) ?_
        refine lv_bipush (v := 40) hx hb dX13_sheet_49 (by decide) ?_
        refine lv_icmp_le (tgt := 61) hx hb dX13_sheet_51 (by decide) (fun c_51 => ?_) (fun c_51 => ?_)
        · skip
          obtain ⟨n_, hn_, rfl⟩ := nat_of_le (n := 40) (rfl) (by omega) ⟨c_37, c_51⟩
          have hcl_n_ := nI_clamp (n := n_) (by omega)
          refine lv_aload_n hx hb dX13_sheet_61 rfl (lv_at hl 0 rfl) ?_
          refine mg_bitsOf S hK hP dX13_sheet_62 ?_
          refine lv_iload_n hx hb dX13_sheet_65 rfl (lv_at hl 1 rfl) ?_
          refine lv_iload_n hx hb dX13_sheet_66 rfl (lv_at hl 2 rfl) ?_
          refine lv_if_ne (tgt := 74) hx hb dX13_sheet_67 (by decide) (fun c_67 => ?_) (fun c_67 => ?_)
          · skip
            refine lv_iload_n hx hb dX13_sheet_74 rfl (lv_at hl 2 rfl) ?_
            refine mk_st6 S hK hP hS (v_) (by omega) rfl dX13_sheet_75 (fun H locs hP hS => ?_)
            refine lv_aload_n hx hb dX13_sheet_76 rfl (lv_at hl 0 rfl) ?_
            refine mg_sizes S hK hP dX13_sheet_77 ?_
            refine lv_iload_n hx hb dX13_sheet_80 rfl (lv_at hl 1 rfl) ?_
            refine lv_iload_n hx hb dX13_sheet_81 rfl (lv_at hl 2 rfl) ?_
            refine lv_if_ne (tgt := 89) hx hb dX13_sheet_82 (by decide) (fun c_82 => ?_) (fun c_82 => ?_)
            · skip
              refine lv_iload_n hx hb dX13_sheet_89 rfl (lv_at hl 3 rfl) ?_
              refine mk_st7 S hK hP hS (v_) (by omega) rfl dX13_sheet_90 (fun H locs hP hS => ?_)
              refine lv_iconst (v := 0) hx hb dX13_sheet_91 (by decide) ?_
              refine lv_istore (lv' := [(4, .int (0)), (0, .ref (t.2.1 0)), (1, .int ((nI v_))), (2, .int (w)), (3, .int ((nI n_)))]) hx hb dX13_sheet_92 hl (by decide) rfl (fun ls hl => ?_)
              rw [← va_eta (va_up (va_up x 6 (upd (x 6) (v_) w)) 7 (upd ((va_up x 6 (upd (x 6) (v_) w)) 7) (v_) (nI n_))) 8] at hP
              have lp_94 : ∀ (j k : Nat) (f8 : Rw) (H : Heap) (locs : List Loc) (ls : Array Slot), k + j = 40 → (lp (fun u f => upd f (40 * v_ + u) 0) j k f8 = p_zz (x 8) v_) → mW t (r) ((va_up (va_up (va_up x 6 (upd (x 6) (v_) w)) 7 (upd ((va_up x 6 (upd (x 6) (v_) w)) 7) (v_) (nI n_))) 8 f8)) H → va_S (mA t) s.heap H locs → lv_has ls 5 [(0, .ref (t.2.1 0)), (1, .int ((nI v_))), (2, .int (w)), (3, .int ((nI n_))), (4, .int ((nI k)))] → W p l e (rmF 1) s m ([.ref (t.2.1 0), .int (nI v_), .int w, .int (nI n_)] : List Value).toArray below meth c H locs 0 0 (MQ below (kW (some (.int ((o_sheet r (nI v_) w (nI n_)).1))) (mW t ((o_sheet r (nI v_) w (nI n_)).2.1) (shx x (nI v_) w (nI n_) (o_sheet r (nI v_) w (nI n_)).2.2)) (mA t)) ([.ref (t.2.1 0), .int (nI v_), .int w, .int (nI n_)] : List Value).toArray s 0 0 (mA t)) (F0 m 94 ls []) := by
                intro j
                induction j with
                | zero =>
                  intro k f8 H locs ls hkj he hP hS hl
                  refine lv_iload hx hb dX13_sheet_94 (lv_at hl 4 rfl) ?_
                  refine lv_bipush (v := 40) hx hb dX13_sheet_96 (by decide) ?_
                  refine kb_ge_n (tgt := 120) (a := k) (b := 40) S rfl rfl (by omega) (by omega) dX13_sheet_98 (by decide) (fun c_98 => ?_) (fun c_98 => ?_)
                  · skip
                    refine lv_aload_n hx hb dX13_sheet_120 rfl (lv_at hl 0 rfl) ?_
                    refine mg_sizes S hK hP dX13_sheet_121 ?_
                    refine lv_iload_n hx hb dX13_sheet_124 rfl (lv_at hl 1 rfl) ?_
                    refine mk_ld7 S hK hP (v_) (by omega) rfl dX13_sheet_125 ?_
                    exact kk_iretW S hr hlk hS (by simp only [o_sheet, c_4, hbits, hcl_v_, c_37, c_51, reduceIte, and_self, oK, shx]; simp only [c_67, reduceIte]; rw [← he]; exact hP) (by simp only [o_sheet, c_4, hbits, hcl_v_, c_37, c_51, reduceIte, and_self, oK]; simp only [c_67, reduceIte]; exact up_s) dX13_sheet_126
                  · exact absurd c_98 (by omega)
                | succ j ih =>
                  intro k f8 H locs ls hkj he hP hS hl
                  have ih_94 := ih
                  refine lv_iload hx hb dX13_sheet_94 (lv_at hl 4 rfl) ?_
                  refine lv_bipush (v := 40) hx hb dX13_sheet_96 (by decide) ?_
                  refine kb_ge_n (tgt := 120) (a := k) (b := 40) S rfl rfl (by omega) (by omega) dX13_sheet_98 (by decide) (fun c_98 => ?_) (fun c_98 => ?_)
                  · exact absurd c_98 (by omega)
                  · skip
                    refine lv_aload_n hx hb dX13_sheet_101 rfl (lv_at hl 0 rfl) ?_
                    refine mg_numbers S hK hP dX13_sheet_102 ?_
                    refine lv_bipush (v := 40) hx hb dX13_sheet_105 (by decide) ?_
                    refine lv_iload_n hx hb dX13_sheet_107 rfl (lv_at hl 1 rfl) ?_
                    refine lv_imul hx hb dX13_sheet_108 ?_
                    refine lv_iload hx hb dX13_sheet_109 (lv_at hl 4 rfl) ?_
                    refine lv_iadd hx hb dX13_sheet_111 ?_
                    refine lv_iconst (v := 0) hx hb dX13_sheet_112 (by decide) ?_
                    refine mk_st8 S hK hP hS (((40 * v_) + k)) (by omega) (nn_add (nn_mul rfl rfl) rfl) dX13_sheet_113 (fun H locs hP hS => ?_)
                    rw [bx_uu] at hP
                    refine lv_iinc (v := (nI (k + 1))) (lv' := [(4, .int ((nI (k + 1)))), (0, .ref (t.2.1 0)), (1, .int ((nI v_))), (2, .int (w)), (3, .int ((nI n_)))]) hx hb dX13_sheet_114 hl (k := 4) rfl (nn_1 rfl) (by decide) rfl (fun ls hl => ?_)
                    refine lv_goto (tgt := 94) hx hb dX13_sheet_117 (by decide) ?_
                    exact ih_94 ((k + 1)) (upd f8 (40 * v_ + k) 0) _ _ ls (by omega) (by have h := he; rw [lp] at h; exact h) hP hS (lv_sub hl [1, 2, 3, 4, 0] rfl)
              exact lp_94 40 0 _ _ _ ls (by omega) (rfl) hP hS (lv_sub hl [1, 2, 3, 4, 0] rfl)
            · exact absurd c_82 c_67
          · skip
            refine lv_iconst (v := (-1)) hx hb dX13_sheet_70 (by decide) ?_
            refine lv_goto (tgt := 75) hx hb dX13_sheet_71 (by decide) ?_
            refine mk_st6 S hK hP hS (v_) (by omega) rfl dX13_sheet_75 (fun H locs hP hS => ?_)
            refine lv_aload_n hx hb dX13_sheet_76 rfl (lv_at hl 0 rfl) ?_
            refine mg_sizes S hK hP dX13_sheet_77 ?_
            refine lv_iload_n hx hb dX13_sheet_80 rfl (lv_at hl 1 rfl) ?_
            refine lv_iload_n hx hb dX13_sheet_81 rfl (lv_at hl 2 rfl) ?_
            refine lv_if_ne (tgt := 89) hx hb dX13_sheet_82 (by decide) (fun c_82 => ?_) (fun c_82 => ?_)
            · exact absurd c_67 c_82
            · skip
              refine lv_iconst (v := 0) hx hb dX13_sheet_85 (by decide) ?_
              refine lv_goto (tgt := 90) hx hb dX13_sheet_86 (by decide) ?_
              refine mk_st7 S hK hP hS (v_) (by omega) rfl dX13_sheet_90 (fun H locs hP hS => ?_)
              refine lv_iconst (v := 0) hx hb dX13_sheet_91 (by decide) ?_
              refine lv_istore (lv' := [(4, .int (0)), (0, .ref (t.2.1 0)), (1, .int ((nI v_))), (2, .int (w)), (3, .int ((nI n_)))]) hx hb dX13_sheet_92 hl (by decide) rfl (fun ls hl => ?_)
              rw [← va_eta (va_up (va_up x 6 (upd (x 6) (v_) (-1))) 7 (upd ((va_up x 6 (upd (x 6) (v_) (-1))) 7) (v_) 0)) 8] at hP
              have lp_94 : ∀ (j k : Nat) (f8 : Rw) (H : Heap) (locs : List Loc) (ls : Array Slot), k + j = 40 → (lp (fun u f => upd f (40 * v_ + u) 0) j k f8 = p_zz (x 8) v_) → mW t (r) ((va_up (va_up (va_up x 6 (upd (x 6) (v_) (-1))) 7 (upd ((va_up x 6 (upd (x 6) (v_) (-1))) 7) (v_) 0)) 8 f8)) H → va_S (mA t) s.heap H locs → lv_has ls 5 [(0, .ref (t.2.1 0)), (1, .int ((nI v_))), (2, .int (w)), (3, .int ((nI n_))), (4, .int ((nI k)))] → W p l e (rmF 1) s m ([.ref (t.2.1 0), .int (nI v_), .int w, .int (nI n_)] : List Value).toArray below meth c H locs 0 0 (MQ below (kW (some (.int ((o_sheet r (nI v_) w (nI n_)).1))) (mW t ((o_sheet r (nI v_) w (nI n_)).2.1) (shx x (nI v_) w (nI n_) (o_sheet r (nI v_) w (nI n_)).2.2)) (mA t)) ([.ref (t.2.1 0), .int (nI v_), .int w, .int (nI n_)] : List Value).toArray s 0 0 (mA t)) (F0 m 94 ls []) := by
                intro j
                induction j with
                | zero =>
                  intro k f8 H locs ls hkj he hP hS hl
                  refine lv_iload hx hb dX13_sheet_94 (lv_at hl 4 rfl) ?_
                  refine lv_bipush (v := 40) hx hb dX13_sheet_96 (by decide) ?_
                  refine kb_ge_n (tgt := 120) (a := k) (b := 40) S rfl rfl (by omega) (by omega) dX13_sheet_98 (by decide) (fun c_98 => ?_) (fun c_98 => ?_)
                  · skip
                    refine lv_aload_n hx hb dX13_sheet_120 rfl (lv_at hl 0 rfl) ?_
                    refine mg_sizes S hK hP dX13_sheet_121 ?_
                    refine lv_iload_n hx hb dX13_sheet_124 rfl (lv_at hl 1 rfl) ?_
                    refine mk_ld7 S hK hP (v_) (by omega) rfl dX13_sheet_125 ?_
                    exact kk_iretW S hr hlk hS (by simp only [o_sheet, c_4, hbits, hcl_v_, c_37, c_51, reduceIte, and_self, oK, shx]; simp only [c_67, reduceIte]; rw [← he]; exact hP) (by simp only [o_sheet, c_4, hbits, hcl_v_, c_37, c_51, reduceIte, and_self, oK]; simp only [c_67, reduceIte]; exact up_s) dX13_sheet_126
                  · exact absurd c_98 (by omega)
                | succ j ih =>
                  intro k f8 H locs ls hkj he hP hS hl
                  have ih_94 := ih
                  refine lv_iload hx hb dX13_sheet_94 (lv_at hl 4 rfl) ?_
                  refine lv_bipush (v := 40) hx hb dX13_sheet_96 (by decide) ?_
                  refine kb_ge_n (tgt := 120) (a := k) (b := 40) S rfl rfl (by omega) (by omega) dX13_sheet_98 (by decide) (fun c_98 => ?_) (fun c_98 => ?_)
                  · exact absurd c_98 (by omega)
                  · skip
                    refine lv_aload_n hx hb dX13_sheet_101 rfl (lv_at hl 0 rfl) ?_
                    refine mg_numbers S hK hP dX13_sheet_102 ?_
                    refine lv_bipush (v := 40) hx hb dX13_sheet_105 (by decide) ?_
                    refine lv_iload_n hx hb dX13_sheet_107 rfl (lv_at hl 1 rfl) ?_
                    refine lv_imul hx hb dX13_sheet_108 ?_
                    refine lv_iload hx hb dX13_sheet_109 (lv_at hl 4 rfl) ?_
                    refine lv_iadd hx hb dX13_sheet_111 ?_
                    refine lv_iconst (v := 0) hx hb dX13_sheet_112 (by decide) ?_
                    refine mk_st8 S hK hP hS (((40 * v_) + k)) (by omega) (nn_add (nn_mul rfl rfl) rfl) dX13_sheet_113 (fun H locs hP hS => ?_)
                    rw [bx_uu] at hP
                    refine lv_iinc (v := (nI (k + 1))) (lv' := [(4, .int ((nI (k + 1)))), (0, .ref (t.2.1 0)), (1, .int ((nI v_))), (2, .int (w)), (3, .int ((nI n_)))]) hx hb dX13_sheet_114 hl (k := 4) rfl (nn_1 rfl) (by decide) rfl (fun ls hl => ?_)
                    refine lv_goto (tgt := 94) hx hb dX13_sheet_117 (by decide) ?_
                    exact ih_94 ((k + 1)) (upd f8 (40 * v_ + k) 0) _ _ ls (by omega) (by have h := he; rw [lp] at h; exact h) hP hS (lv_sub hl [1, 2, 3, 4, 0] rfl)
              exact lp_94 40 0 _ _ _ ls (by omega) (rfl) hP hS (lv_sub hl [1, 2, 3, 4, 0] rfl)
        · skip
          refine lv_aload_n hx hb dX13_sheet_54 rfl (lv_at hl 0 rfl) ?_
          refine lv_ldc (v := (-1000001)) hx hb hown (hts _ q1305) dX13_sheet_55 ?_
          refine c_finds S hK hP hS (rm_ok (Nat.le_of_ble_eq_true rfl)) hl.1 (0) (by decide) (by decide) (Nat.le_of_ble_eq_true rfl) dX13_sheet_57 (fun H locs hP hS => ?_)
          exact kk_iretW S hr hlk hS (by simp only [o_sheet, c_4, hbits, c_37, c_51, reduceIte, and_self, oF, shx]; exact hP) (by simp only [o_sheet, c_4, hbits, c_37, c_51, reduceIte, and_self, oF]; decide) dX13_sheet_60
      · skip
        refine lv_aload_n hx hb dX13_sheet_40 rfl (lv_at hl 0 rfl) ?_
        refine lv_ldcw (v := (-1000007)) hx hb hown (hts _ q1669) dX13_sheet_41 ?_
        refine c_finds S hK hP hS (rm_ok (Nat.le_of_ble_eq_true rfl)) hl.1 (6) (by decide) (by decide) (Nat.le_of_ble_eq_true rfl) dX13_sheet_44 (fun H locs hP hS => ?_)
        exact kk_iretW S hr hlk hS (by simp only [o_sheet, c_4, hbits, c_37, reduceIte, and_self, oF, shx]; exact hP) (by simp only [o_sheet, c_4, hbits, c_37, reduceIte, and_self, oF]; decide) dX13_sheet_47
    refine lv_iload_n hx hb dX13_sheet_7 rfl (lv_at hl 2 rfl) ?_
    refine lv_if_eq (tgt := 36) hx hb dX13_sheet_8 (by decide) (fun c_8 => ?_) (fun c_8 => ?_)
    · skip
      exact cut_36 _ _ ls (Or.inl c_8) hP hS (lv_sub hl [0, 1, 2, 3] rfl)
    · skip
      refine lv_iload_n hx hb dX13_sheet_11 rfl (lv_at hl 2 rfl) ?_
      refine lv_bipush (v := 8) hx hb dX13_sheet_12 (by decide) ?_
      refine lv_icmp_eq (tgt := 36) hx hb dX13_sheet_14 (by decide) (fun c_14 => ?_) (fun c_14 => ?_)
      · skip
        exact cut_36 _ _ ls (Or.inr (Or.inl c_14)) hP hS (lv_sub hl [0, 1, 2, 3] rfl)
      · skip
        refine lv_iload_n hx hb dX13_sheet_17 rfl (lv_at hl 2 rfl) ?_
        refine lv_bipush (v := 16) hx hb dX13_sheet_18 (by decide) ?_
        refine lv_icmp_eq (tgt := 36) hx hb dX13_sheet_20 (by decide) (fun c_20 => ?_) (fun c_20 => ?_)
        · skip
          exact cut_36 _ _ ls (Or.inr (Or.inr (Or.inl c_20))) hP hS (lv_sub hl [0, 1, 2, 3] rfl)
        · skip
          refine lv_iload_n hx hb dX13_sheet_23 rfl (lv_at hl 2 rfl) ?_
          refine lv_bipush (v := 32) hx hb dX13_sheet_24 (by decide) ?_
          refine lv_icmp_eq (tgt := 36) hx hb dX13_sheet_26 (by decide) (fun c_26 => ?_) (fun c_26 => ?_)
          · skip
            exact cut_36 _ _ ls (Or.inr (Or.inr (Or.inr c_26))) hP hS (lv_sub hl [0, 1, 2, 3] rfl)
          · skip
            have hbits : ¬ (w = 0 ∨ w = 8 ∨ w = 16 ∨ w = 32) := fun z => z.elim c_8 (fun z => z.elim c_14 (fun z => z.elim c_20 c_26))
            refine lv_aload_n hx hb dX13_sheet_29 rfl (lv_at hl 0 rfl) ?_
            refine lv_ldc (v := (-1000001)) hx hb hown (hts _ q1305) dX13_sheet_30 ?_
            refine c_finds S hK hP hS (rm_ok (Nat.le_of_ble_eq_true rfl)) hl.1 (0) (by decide) (by decide) (Nat.le_of_ble_eq_true rfl) dX13_sheet_32 (fun H locs hP hS => ?_)
            exact kk_iretW S hr hlk hS (by simp only [o_sheet, c_4, hcl_v_, hbits, reduceIte, and_self, oF, oK, fx, shx]; exact hP) (by simp only [o_sheet, c_4, hcl_v_, hbits, reduceIte, and_self, oF, oK, fnd, shx] <;> first | rfl | decide) dX13_sheet_35
set_option maxHeartbeats 4000000 in
set_option maxRecDepth 100000 in
theorem k_write (l : Launch) (t : MT) (r : Rw) (x : Nat → Rw) (v : Int32) (i : Int32) (w : Int32) (hs : mS x) : Met l yX13_write (ws_ yX13_write cX13_write 4 (some .int)) (rmF 1) (va_Pc [.ref (t.2.1 0), .int v, .int i, .int w] (fun U => mK t U ∧ mW t r x U.heap)) (kW (some (.int ((o_write (mSv x) r v i).1))) (mW t ((o_write (mSv x) r v i).2.1) (wrx x v i w (o_write (mSv x) r v i).2.2)) (mA t)) 0 0 (mA t) := by
  refine kk_start (by decide) (Nat.le_of_ble_eq_true rfl) ?_
  intro p e s m below meth c S hr hlk hin hB ls hl
  obtain ⟨hK, hP⟩ := hB
  have hx := S.1
  have hb := S.2.1
  have hown : s.vm.findClass RX13 = some m.cls := S.2.2.2.1
  have hts := S.2.2.2.2
  have hS : va_S (mA t) s.heap s.heap [] := va_S.rf
  have hl : lv_has ls 4 [(0, .ref (t.2.1 0)), (1, .int (v)), (2, .int (i)), (3, .int (w))] := hl
  refine lv_iload_n hx hb dX13_write_0 rfl (lv_at hl 1 rfl) ?_
  refine c_isSheet S (rm_ok (Nat.le_of_ble_eq_true rfl)) hl.1 (Nat.le_of_ble_eq_true rfl) dX13_write_1 ?_
  refine kb_ifne (tgt := 14) S dX13_write_4 (by decide) (fun c_4 => ?_) (fun c_4 => ?_)
  · skip
    obtain ⟨v_, hv_, rfl⟩ := nat_of_lt (n := 4) (rfl) (by omega) c_4
    have hcl_v_ := nI_clamp (n := v_) (by omega)
    have hsz_ := hs v_ hv_
    have hsn : x 7 v_ = nI (x 7 v_).toNatClampNeg ∧ (x 7 v_).toNatClampNeg ≤ 40 := by obtain ⟨q, h1, h2⟩ := hsz_; exact pv_x h2 h1 (by decide)
    have hs1 := hsn.1
    have hs40 := hsn.2
    refine lv_aload_n hx hb dX13_write_14 rfl (lv_at hl 0 rfl) ?_
    refine mg_bitsOf S hK hP dX13_write_15 ?_
    refine lv_iload_n hx hb dX13_write_18 rfl (lv_at hl 1 rfl) ?_
    refine mk_ld6 S hK hP (v_) (by omega) rfl dX13_write_19 ?_
    refine lv_if_ge (tgt := 31) hx hb dX13_write_20 (by decide) (fun c_20 => ?_) (fun c_20 => ?_)
    · skip
      refine lv_iload_n hx hb dX13_write_31 rfl (lv_at hl 2 rfl) ?_
      refine lv_i2l hx hb dX13_write_32 rfl ?_
      refine lv_lconst (v := (0 : Int32).toInt64) hx hb dX13_write_33 (by decide) ?_
      refine lv_aload_n hx hb dX13_write_34 rfl (lv_at hl 0 rfl) ?_
      refine mg_sizes S hK hP dX13_write_35 ?_
      refine lv_iload_n hx hb dX13_write_38 rfl (lv_at hl 1 rfl) ?_
      refine mk_ld7 S hK hP (v_) (by omega) rfl dX13_write_39 ?_
      refine lv_iconst (v := 1) hx hb dX13_write_40 (by decide) ?_
      refine lv_isub hx hb dX13_write_41 ?_
      refine lv_i2l hx hb dX13_write_42 rfl ?_
      refine c_isIn S (rm_ok (Nat.le_of_ble_eq_true rfl)) hl.1 (Nat.le_of_ble_eq_true rfl) dX13_write_43 ?_
      refine kb_ifne (tgt := 56) S dX13_write_46 (by decide) (fun c_46 => ?_) (fun c_46 => ?_)
      · skip
        rw [hs1] at c_46
        obtain ⟨i_, hi_, rfl⟩ := ix_lt hs40 c_46
        have hcl_i_ := nI_clamp (n := i_) (by omega)
        refine lv_aload_n hx hb dX13_write_56 rfl (lv_at hl 0 rfl) ?_
        refine mg_numbers S hK hP dX13_write_57 ?_
        refine lv_bipush (v := 40) hx hb dX13_write_60 (by decide) ?_
        refine lv_iload_n hx hb dX13_write_62 rfl (lv_at hl 1 rfl) ?_
        refine lv_imul hx hb dX13_write_63 ?_
        refine lv_iload_n hx hb dX13_write_64 rfl (lv_at hl 2 rfl) ?_
        refine lv_iadd hx hb dX13_write_65 ?_
        refine lv_aload_n hx hb dX13_write_66 rfl (lv_at hl 0 rfl) ?_
        refine mg_bitsOf S hK hP dX13_write_67 ?_
        refine lv_iload_n hx hb dX13_write_70 rfl (lv_at hl 1 rfl) ?_
        refine mk_ld6 S hK hP (v_) (by omega) rfl dX13_write_71 ?_
        refine lv_bipush (v := 8) hx hb dX13_write_72 (by decide) ?_
        refine lv_icmp_ne (tgt := 82) hx hb dX13_write_74 (by decide) (fun c_74 => ?_) (fun c_74 => ?_)
        · skip
          refine lv_aload_n hx hb dX13_write_82 rfl (lv_at hl 0 rfl) ?_
          refine mg_bitsOf S hK hP dX13_write_83 ?_
          refine lv_iload_n hx hb dX13_write_86 rfl (lv_at hl 1 rfl) ?_
          refine mk_ld6 S hK hP (v_) (by omega) rfl dX13_write_87 ?_
          refine lv_bipush (v := 16) hx hb dX13_write_88 (by decide) ?_
          refine lv_icmp_ne (tgt := 98) hx hb dX13_write_90 (by decide) (fun c_90 => ?_) (fun c_90 => ?_)
          · skip
            refine lv_iload_n hx hb dX13_write_98 rfl (lv_at hl 3 rfl) ?_
            refine mk_st8 S hK hP hS (((40 * v_) + i_)) (by omega) (nn_add (nn_mul rfl rfl) rfl) dX13_write_99 (fun H locs hP hS => ?_)
            refine lv_iconst (v := 1) hx hb dX13_write_100 (by decide) ?_
            exact kk_iretW S hr hlk hS (by simp only [o_write, c_4, hcl_v_, reduceIte, and_self, mSv_y (Int32.not_lt.mpr c_20), c_46, hcl_i_, oK, wrx, p_nar]; rw [if_neg c_74, if_neg c_90]; exact hP) (by simp only [o_write, c_4, hcl_v_, reduceIte, and_self, mSv_y (Int32.not_lt.mpr c_20), c_46, oK]) dX13_write_101
          · skip
            refine lv_iload_n hx hb dX13_write_93 rfl (lv_at hl 3 rfl) ?_
            refine lv_i2s hx hb dX13_write_94 rfl ?_
            refine lv_goto (tgt := 99) hx hb dX13_write_95 (by decide) ?_
            refine mk_st8 S hK hP hS (((40 * v_) + i_)) (by omega) (nn_add (nn_mul rfl rfl) rfl) dX13_write_99 (fun H locs hP hS => ?_)
            refine lv_iconst (v := 1) hx hb dX13_write_100 (by decide) ?_
            exact kk_iretW S hr hlk hS (by simp only [o_write, c_4, hcl_v_, reduceIte, and_self, mSv_y (Int32.not_lt.mpr c_20), c_46, hcl_i_, oK, wrx, p_nar]; rw [if_neg c_74, if_pos c_90]; exact hP) (by simp only [o_write, c_4, hcl_v_, reduceIte, and_self, mSv_y (Int32.not_lt.mpr c_20), c_46, oK]) dX13_write_101
        · skip
          refine lv_iload_n hx hb dX13_write_77 rfl (lv_at hl 3 rfl) ?_
          refine lv_i2b hx hb dX13_write_78 rfl ?_
          refine lv_goto (tgt := 99) hx hb dX13_write_79 (by decide) ?_
          refine mk_st8 S hK hP hS (((40 * v_) + i_)) (by omega) (nn_add (nn_mul rfl rfl) rfl) dX13_write_99 (fun H locs hP hS => ?_)
          refine lv_iconst (v := 1) hx hb dX13_write_100 (by decide) ?_
          exact kk_iretW S hr hlk hS (by simp only [o_write, c_4, hcl_v_, reduceIte, and_self, mSv_y (Int32.not_lt.mpr c_20), c_46, hcl_i_, oK, wrx, p_nar]; rw [if_pos c_74]; exact hP) (by simp only [o_write, c_4, hcl_v_, reduceIte, and_self, mSv_y (Int32.not_lt.mpr c_20), c_46, oK]) dX13_write_101
      · skip
        rw [hs1] at c_46
        refine lv_aload_n hx hb dX13_write_49 rfl (lv_at hl 0 rfl) ?_
        refine lv_ldc (v := (-1000001)) hx hb hown (hts _ q1305) dX13_write_50 ?_
        refine c_finds S hK hP hS (rm_ok (Nat.le_of_ble_eq_true rfl)) hl.1 (0) (by decide) (by decide) (Nat.le_of_ble_eq_true rfl) dX13_write_52 (fun H locs hP hS => ?_)
        exact kk_iretW S hr hlk hS (by simp only [o_write, c_4, hcl_v_, reduceIte, and_self, mSv_y (Int32.not_lt.mpr c_20), c_46, oF, wrx]; exact hP) (by simp only [o_write, c_4, hcl_v_, reduceIte, and_self, mSv_y (Int32.not_lt.mpr c_20), c_46, oF]; decide) dX13_write_55
    · skip
      refine lv_aload_n hx hb dX13_write_23 rfl (lv_at hl 0 rfl) ?_
      refine lv_ldcw (v := (-1000006)) hx hb hown (hts _ q1543) dX13_write_24 ?_
      refine c_finds S hK hP hS (rm_ok (Nat.le_of_ble_eq_true rfl)) hl.1 (5) (by decide) (by decide) (Nat.le_of_ble_eq_true rfl) dX13_write_27 (fun H locs hP hS => ?_)
      exact kk_iretW S hr hlk hS (by simp only [o_write, c_4, hcl_v_, reduceIte, and_self, mSv_n (Int32.not_le.mp c_20), oF, wrx]; exact hP) (by simp only [o_write, c_4, hcl_v_, reduceIte, and_self, mSv_n (Int32.not_le.mp c_20), oF]; decide) dX13_write_30
  · skip
    refine lv_aload_n hx hb dX13_write_7 rfl (lv_at hl 0 rfl) ?_
    refine lv_ldc (v := (-1000001)) hx hb hown (hts _ q1305) dX13_write_8 ?_
    refine c_finds S hK hP hS (rm_ok (Nat.le_of_ble_eq_true rfl)) hl.1 (0) (by decide) (by decide) (Nat.le_of_ble_eq_true rfl) dX13_write_10 (fun H locs hP hS => ?_)
    exact kk_iretW S hr hlk hS (by simp only [o_write, c_4, reduceIte, oF, wrx]; exact hP) (by simp only [o_write, c_4, reduceIte, oF]; decide) dX13_write_13

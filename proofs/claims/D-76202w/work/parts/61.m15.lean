set_option maxHeartbeats 4000000 in
set_option maxRecDepth 100000 in
theorem k_feed (l : Launch) (t : MT) (r : Rw) (x : Nat → Rw) (v : Int32) (n : Int32) (tp : Nat) (htp : x 9 1 = nI tp) (h120 : tp ≤ 120) : Met l yX13_feed (ws_ yX13_feed cX13_feed 4 (some .int)) (rmF 1) (va_Pc [.ref (t.2.1 0), .int v, .int n] (fun U => mK t U ∧ mW t r x U.heap)) (kW (some (.int ((o_feed tp r n).1))) (mW t ((o_feed tp r n).2.1) (fdx x tp v n (o_feed tp r n).2.2)) (mA t)) 0 0 (mA t) := by
  refine kk_start (by decide) (Nat.le_of_ble_eq_true rfl) ?_
  intro p e s m below meth c S hr hlk hin hB ls hl
  obtain ⟨hK, hP⟩ := hB
  have hx := S.1
  have hb := S.2.1
  have hown : s.vm.findClass RX13 = some m.cls := S.2.2.2.1
  have hts := S.2.2.2.2
  have hS : va_S (mA t) s.heap s.heap [] := va_S.rf
  have hl : lv_has ls 4 [(0, .ref (t.2.1 0)), (1, .int (v)), (2, .int (n))] := hl
  refine lv_iload_n hx hb dX13_feed_0 rfl (lv_at hl 2 rfl) ?_
  refine lv_i2l hx hb dX13_feed_1 rfl ?_
  refine lv_lconst (v := (1 : Int32).toInt64) hx hb dX13_feed_2 (by decide) ?_
  refine lv_ldc2 (v := ((4) : Int32).toInt64) hx hb hown (hts _ q1582) dX13_feed_3 ?_
  refine c_isIn S (rm_ok (Nat.le_of_ble_eq_true rfl)) hl.1 (Nat.le_of_ble_eq_true rfl) dX13_feed_6 ?_
  refine kb_ifne (tgt := 19) S dX13_feed_9 (by decide) (fun c_9 => ?_) (fun c_9 => ?_)
  · skip
    obtain ⟨n_, hn_, rfl⟩ := nat_of_1 (n := 4) (rfl) (by omega) c_9
    have hcl_n_ := nI_clamp (n := n_) (by omega)
    refine lv_aload_n hx hb dX13_feed_19 rfl (lv_at hl 0 rfl) ?_
    refine mg_taped S hK hP dX13_feed_20 ?_
    refine lv_iload_n hx hb dX13_feed_23 rfl (lv_at hl 2 rfl) ?_
    refine lv_iadd hx hb dX13_feed_24 ?_
    refine lv_bipush (v := 120) hx hb dX13_feed_25 (by decide) ?_
    refine kb_le_n (tgt := 37) (a := (tp + n_)) (b := 120) S (nn_add htp rfl) rfl (by omega) (by omega) dX13_feed_27 (by decide) (fun c_27 => ?_) (fun c_27 => ?_)
    · skip
      refine lv_iload_n hx hb dX13_feed_37 rfl (lv_at hl 2 rfl) ?_
      refine lv_iconst (v := 1) hx hb dX13_feed_38 (by decide) ?_
      refine lv_isub hx hb dX13_feed_39 ?_
      refine kb_nat (y := dj n_) (dj_pred n_) ?_
      refine lv_istore_n (lv' := [(3, .int ((dj n_))), (0, .ref (t.2.1 0)), (1, .int (v)), (2, .int ((nI n_)))]) hx hb dX13_feed_40 rfl hl (by decide) rfl (fun ls hl => ?_)
      rw [← XF_0 htp] at hP
      have lp_41 : ∀ (j : Nat) (f5 : Rw) (q : Nat) (H : Heap) (locs : List Loc) (ls : Array Slot), (q + j = tp + n_) → (p_feed v j f5 q = p_feed v n_ (x 5) tp) → mW t (r) ((XF x f5 q)) H → va_S (mA t) s.heap H locs → lv_has ls 4 [(0, .ref (t.2.1 0)), (1, .int (v)), (2, .int ((nI n_))), (3, .int ((dj j)))] → W p l e (rmF 1) s m ([.ref (t.2.1 0), .int v, .int (nI n_)] : List Value).toArray below meth c H locs 0 0 (MQ below (kW (some (.int ((o_feed tp r (nI n_)).1))) (mW t ((o_feed tp r (nI n_)).2.1) (fdx x tp v (nI n_) (o_feed tp r (nI n_)).2.2)) (mA t)) ([.ref (t.2.1 0), .int v, .int (nI n_)] : List Value).toArray s 0 0 (mA t)) (F0 m 41 ls []) := by
        intro j
        induction j with
        | zero =>
          intro f5 q H locs ls hkj he hP hS hl
          refine lv_iload_n hx hb dX13_feed_41 rfl (lv_at hl 3 rfl) ?_
          refine lv_if_lt (tgt := 80) hx hb dX13_feed_42 (by decide) (fun c_42 => ?_) (fun c_42 => ?_)
          · skip
            have hq : q = tp + n_ := by omega
            refine lv_aload_n hx hb dX13_feed_80 rfl (lv_at hl 0 rfl) ?_
            refine mg_taped S hK hP dX13_feed_81 ?_
            exact kk_iretW S hr hlk hS (by simp only [o_feed, c_9, hcl_n_, c_27, reduceIte, and_self, oK, fdx]; rw [← hq, ← he]; exact hP) (by simp only [o_feed, c_9, hcl_n_, c_27, reduceIte, and_self, oK]; exact congrArg nI hq) dX13_feed_84
          · exact absurd (show dj 0 < 0 by decide) c_42
        | succ j ih =>
          intro f5 q H locs ls hkj he hP hS hl
          have ih_41 := ih
          refine lv_iload_n hx hb dX13_feed_41 rfl (lv_at hl 3 rfl) ?_
          refine kb_lt0_n (tgt := 80) (a := j) S rfl (by omega) dX13_feed_42 (by decide) (fun c_42 => ?_) (fun c_42 => ?_)
          · exact c_42.elim
          · skip
            refine lv_aload_n hx hb dX13_feed_45 rfl (lv_at hl 0 rfl) ?_
            refine mg_tape S hK hP dX13_feed_46 ?_
            refine lv_aload_n hx hb dX13_feed_49 rfl (lv_at hl 0 rfl) ?_
            refine mg_taped S hK hP dX13_feed_50 ?_
            refine lv_iload_n hx hb dX13_feed_53 rfl (lv_at hl 1 rfl) ?_
            refine lv_bipush (v := 8) hx hb dX13_feed_54 (by decide) ?_
            refine lv_iload_n hx hb dX13_feed_56 rfl (lv_at hl 3 rfl) ?_
            refine lv_imul hx hb dX13_feed_57 ?_
            refine lv_ishr hx hb dX13_feed_58 ?_
            refine lv_sipush (v := 255) hx hb dX13_feed_59 (by decide) ?_
            refine lv_iand hx hb dX13_feed_62 ?_
            refine mk_st5 S hK hP hS (q) (by omega) rfl dX13_feed_63 (fun H locs hP hS => ?_)
            refine lv_aload_n hx hb dX13_feed_64 rfl (lv_at hl 0 rfl) ?_
            refine lv_dup hx hb dX13_feed_65 rfl ?_
            refine mg_taped S hK hP dX13_feed_66 ?_
            refine lv_iconst (v := 1) hx hb dX13_feed_69 (by decide) ?_
            refine lv_iadd hx hb dX13_feed_70 ?_
            refine kb_nat (y := nI ((q + 1))) (nn_add rfl rfl) ?_
            refine mp_taped S hK hP hS dX13_feed_71 (fun H locs hP hS => ?_)
            rw [XF_1] at hP
            refine lv_iinc (v := (dj j)) (lv' := [(3, .int ((dj j))), (0, .ref (t.2.1 0)), (1, .int (v)), (2, .int ((nI n_)))]) hx hb dX13_feed_74 hl (k := 3) rfl (dj_dec j) (by decide) rfl (fun ls hl => ?_)
            refine lv_goto (tgt := 41) hx hb dX13_feed_77 (by decide) ?_
            exact ih_41  (upd f5 q ((v >>> ((8 * nI j) &&& 31)) &&& 255)) (q + 1) _ _ ls (by omega) (by have h := he; rw [p_feed] at h; exact h) hP hS (lv_sub hl [1, 2, 3, 0] rfl)
      exact lp_41 n_ _ tp _ _ ls (by omega) (rfl) hP hS (lv_sub hl [1, 2, 3, 0] rfl)
    · skip
      refine lv_aload_n hx hb dX13_feed_30 rfl (lv_at hl 0 rfl) ?_
      refine lv_ldc (v := (-1000002)) hx hb hown (hts _ q1337) dX13_feed_31 ?_
      refine c_finds S hK hP hS (rm_ok (Nat.le_of_ble_eq_true rfl)) hl.1 (1) (by decide) (by decide) (Nat.le_of_ble_eq_true rfl) dX13_feed_33 (fun H locs hP hS => ?_)
      exact kk_iretW S hr hlk hS (by simp only [o_feed, c_9, hcl_n_, Nat.not_le.mpr c_27, reduceIte, and_self, oF, fdx]; exact hP) (by simp only [o_feed, c_9, hcl_n_, Nat.not_le.mpr c_27, reduceIte, and_self, oF]; decide) dX13_feed_36
  · skip
    refine lv_aload_n hx hb dX13_feed_12 rfl (lv_at hl 0 rfl) ?_
    refine lv_ldc (v := (-1000001)) hx hb hown (hts _ q1305) dX13_feed_13 ?_
    refine c_finds S hK hP hS (rm_ok (Nat.le_of_ble_eq_true rfl)) hl.1 (0) (by decide) (by decide) (Nat.le_of_ble_eq_true rfl) dX13_feed_15 (fun H locs hP hS => ?_)
    exact kk_iretW S hr hlk hS (by simp only [o_feed, c_9, reduceIte, oF, fdx]; exact hP) (by simp only [o_feed, c_9, reduceIte, oF]; decide) dX13_feed_18

set_option maxHeartbeats 4000000 in
set_option maxRecDepth 100000 in
theorem k_draw (l : Launch) (t : MT) (r : Rw) (x : Nat → Rw) : Met l yX13_draw (ws_ yX13_draw cX13_draw 1 (some .int)) (rmF 0) (va_Pc [.ref (t.2.1 0)] (fun U => mK t U ∧ mW t r x U.heap)) (kW (some (.int (nI (p_dN r)))) (mW t (p_draw r) (x)) (mA t)) 0 0 (mA t) := by
  refine kk_start (by decide) (Nat.le_of_ble_eq_true rfl) ?_
  intro p e s m below meth c S hr hlk hin hB ls hl
  obtain ⟨hK, hP⟩ := hB
  have hx := S.1
  have hb := S.2.1
  have hown : s.vm.findClass RX13 = some m.cls := S.2.2.2.1
  have hts := S.2.2.2.2
  have hS : va_S (mA t) s.heap s.heap [] := va_S.rf
  have hl : lv_has ls 1 [(0, .ref (t.2.1 0))] := hl
  refine lv_aload_n hx hb dX13_draw_0 rfl (lv_at hl 0 rfl) ?_
  refine mg_s S hK hP dX13_draw_1 ?_
  refine lv_iconst (v := 2) hx hb dX13_draw_4 (by decide) ?_
  refine lv_aload_n hx hb dX13_draw_5 rfl (lv_at hl 0 rfl) ?_
  refine mg_s S hK hP dX13_draw_6 ?_
  refine lv_iconst (v := 2) hx hb dX13_draw_9 (by decide) ?_
  refine mk_lds S hK hP (2) (by omega) rfl dX13_draw_10 ?_
  refine lv_ldc (v := 1103515245) hx hb hown (hts _ q1568) dX13_draw_11 ?_
  refine lv_imul hx hb dX13_draw_13 ?_
  refine lv_sipush (v := 12345) hx hb dX13_draw_14 (by decide) ?_
  refine lv_iadd hx hb dX13_draw_17 ?_
  refine mk_sts S hK hP hS (2) (by omega) rfl dX13_draw_18 (fun H locs hP hS => ?_)
  refine lv_aload_n hx hb dX13_draw_19 rfl (lv_at hl 0 rfl) ?_
  refine mg_s S hK hP dX13_draw_20 ?_
  refine lv_iconst (v := 2) hx hb dX13_draw_23 (by decide) ?_
  refine mk_lds S hK hP (2) (by omega) rfl dX13_draw_24 ?_
  refine lv_bipush (v := 8) hx hb dX13_draw_25 (by decide) ?_
  refine lv_iushr hx hb dX13_draw_27 rfl ?_
  exact kk_iretW S hr hlk hS (hP) (ushr8 _) dX13_draw_28
section MC
variable {p : Program} {l : Launch} {e : Env} {R : Room} {s : State} {m : MethodId} {args : Array Value} {below : List Frame} {meth : Method} {c : Code} {H H0 : Heap} {locs : List Loc} {cells slots : Nat} {Q : State → Prop}
variable {cc : ByteArray} {pc nL : Nat} {ls : Array Slot} {rest : List Value} {t : MT} {r : Rw} {x : Nat → Rw}



theorem c_draw (S : CallFix p m c cc nL s args lw_all RX13) (hK : mK t s) (hP : mW t r x H) (hS : va_S (mA t) H0 H locs) (hR : kRm R 1 cells slots) (hsz : ls.size = nL) (hrest : (rest.map fun v => v.category).sum ≤ 8) (hdg : decode cc pc = .ok (.invokevirtual 200, 3)) (kk : ∀ (H1 : Heap) (locs1 : List Loc), mW t (p_draw r) (x) H1 → va_S (mA t) H0 H1 locs1 → W p l e R s m args below meth c H1 locs1 cells slots Q (F0 m (pc + 3) ls (.int (nI (p_dN r)) :: rest))) : W p l e R s m args below meth c H locs cells slots Q (F0 m pc ls (.ref (t.2.1 0) :: rest)) := by
  exact kk_Wi (W.runV (As := []) (rest := rest) S (k_draw l t r x) (cwV 0 S.2.2.2.2 (lw_V q1564 q1566 qs85 q117 q1567) rfl rfl rfl (by decide +kernel) ⟨hR.1, by have := hR.2.1; show 8 + (1 + 11) + 38 * 0 ≤ R.locals; omega⟩) ⟨m_blind, m_recv hK hP, m_pre hK hP⟩ rfl rfl hsz rfl (lv_room hrest) hdg ⟨hR.2.2.1, hR.2.2.2⟩) hS (fun _ h => h) (fun _ h => h) (fun H1 locs1 hB _ _ hS => kk H1 locs1 hB hS)
end MC
set_option maxHeartbeats 4000000 in
set_option maxRecDepth 100000 in
theorem k_storms (l : Launch) (t : MT) (r : Rw) (x : Nat → Rw) (n : Int32) (b : Nat) (hV : pV b r) (hb : b ≤ 99999) : Met l yX13_storms (ws_ yX13_storms cX13_storms 4 (some .int)) (rmF 5) (va_Pc [.ref (t.2.1 0), .int n] (fun U => mK t U ∧ mW t r x U.heap)) (kW (some (.int ((o_storms r n).1))) (mW t ((o_storms r n).2.1) (fx x (o_storms r n).2.2)) (mA t)) 0 0 (mA t) := by
  refine kk_start (by decide) (Nat.le_of_ble_eq_true rfl) ?_
  intro p e s m below meth c S hr hlk hin hB ls hl
  obtain ⟨hK, hP⟩ := hB
  have hx := S.1
  have hb := S.2.1
  have hown : s.vm.findClass RX13 = some m.cls := S.2.2.2.1
  have hts := S.2.2.2.2
  have hS : va_S (mA t) s.heap s.heap [] := va_S.rf
  have hl : lv_has ls 4 [(0, .ref (t.2.1 0)), (1, .int (n))] := hl
  have hn := hV.n.1
  have hn8 := hV.n.2
  have hd := (hV.d (by omega)).1
  have hdb := (hV.d (by omega)).2
  refine lv_iload_n hx hb dX13_storms_0 rfl (lv_at hl 1 rfl) ?_
  refine lv_i2l hx hb dX13_storms_1 rfl ?_
  refine lv_lconst (v := (1 : Int32).toInt64) hx hb dX13_storms_2 (by decide) ?_
  refine lv_ldc2 (v := ((20) : Int32).toInt64) hx hb hown (hts _ q1497) dX13_storms_3 ?_
  refine c_isIn S (rm_ok (Nat.le_of_ble_eq_true rfl)) hl.1 (Nat.le_of_ble_eq_true rfl) dX13_storms_6 ?_
  refine kb_ifne (tgt := 19) S dX13_storms_9 (by decide) (fun c_9 => ?_) (fun c_9 => ?_)
  · skip
    obtain ⟨n_, hn_, rfl⟩ := nat_of_1 (n := 20) (rfl) (by omega) c_9
    have hcl_n_ := nI_clamp (n := n_) (by omega)
    refine lv_aload_n hx hb dX13_storms_19 rfl (lv_at hl 0 rfl) ?_
    refine mg_s S hK hP dX13_storms_20 ?_
    refine lv_iconst (v := 1) hx hb dX13_storms_23 (by decide) ?_
    refine mk_lds S hK hP (1) (by omega) rfl dX13_storms_24 ?_
    refine lv_iload_n hx hb dX13_storms_25 rfl (lv_at hl 1 rfl) ?_
    refine lv_iadd hx hb dX13_storms_26 ?_
    refine lv_ldc (v := 99999) hx hb hown (hts _ q1387) dX13_storms_27 ?_
    refine kb_le_n (tgt := 39) (a := ((pD r) + n_)) (b := 99999) S (nn_add hd rfl) rfl (by omega) (by omega) dX13_storms_29 (by decide) (fun c_29 => ?_) (fun c_29 => ?_)
    · skip
      refine lv_iconst (v := 0) hx hb dX13_storms_39 (by decide) ?_
      refine lv_istore_n (lv' := [(2, .int (0)), (0, .ref (t.2.1 0)), (1, .int ((nI n_)))]) hx hb dX13_storms_40 rfl hl (by decide) rfl (fun ls hl => ?_)
      have lp_41 : ∀ (j k : Nat) (r1 : Rw) (H : Heap) (locs : List Loc) (ls : Array Slot), k + j = n_ → (p_sts j r1 = p_sts n_ r) → (pV (b + k) r1) → mW t (r1) (x) H → va_S (mA t) s.heap H locs → lv_has ls 4 [(0, .ref (t.2.1 0)), (1, .int ((nI n_))), (2, .int ((nI k)))] → W p l e (rmF 5) s m ([.ref (t.2.1 0), .int (nI n_)] : List Value).toArray below meth c H locs 0 0 (MQ below (kW (some (.int ((o_storms r (nI n_)).1))) (mW t ((o_storms r (nI n_)).2.1) (fx x (o_storms r (nI n_)).2.2)) (mA t)) ([.ref (t.2.1 0), .int (nI n_)] : List Value).toArray s 0 0 (mA t)) (F0 m 41 ls []) := by
        intro j
        induction j with
        | zero =>
          intro k  r1 H locs ls hkj he hV1 hP hS hl
          refine lv_iload_n hx hb dX13_storms_41 rfl (lv_at hl 2 rfl) ?_
          refine lv_iload_n hx hb dX13_storms_42 rfl (lv_at hl 1 rfl) ?_
          refine kb_ge_n (tgt := 80) (a := k) (b := n_) S rfl rfl (by omega) (by omega) dX13_storms_43 (by decide) (fun c_43 => ?_) (fun c_43 => ?_)
          · skip
            have he0 : r1 = p_sts n_ r := he
            subst he0
            refine lv_aload_n hx hb dX13_storms_80 rfl (lv_at hl 0 rfl) ?_
            refine mg_s S hK hP dX13_storms_81 ?_
            refine lv_iconst (v := 3) hx hb dX13_storms_84 (by decide) ?_
            refine mk_lds S hK hP (3) (by omega) rfl dX13_storms_85 ?_
            exact kk_iretW S hr hlk hS (by simp only [o_storms, c_9, c_29, c_43, hcl_n_, Nat.not_lt.mpr c_29, Nat.not_lt.mpr c_43, reduceIte, and_self, oF, oK, fx]; exact hP) (by simp only [o_storms, c_9, c_29, c_43, hcl_n_, Nat.not_lt.mpr c_29, Nat.not_lt.mpr c_43, reduceIte, and_self, oF, oK, fnd] <;> first | rfl | decide) dX13_storms_86
          · exact absurd c_43 (by omega)
        | succ j ih =>
          intro k  r1 H locs ls hkj he hV1 hP hS hl
          have ih_41 := ih
          refine lv_iload_n hx hb dX13_storms_41 rfl (lv_at hl 2 rfl) ?_
          refine lv_iload_n hx hb dX13_storms_42 rfl (lv_at hl 1 rfl) ?_
          refine kb_ge_n (tgt := 80) (a := k) (b := n_) S rfl rfl (by omega) (by omega) dX13_storms_43 (by decide) (fun c_43 => ?_) (fun c_43 => ?_)
          · exact absurd c_43 (by omega)
          · skip
            refine lv_aload_n hx hb dX13_storms_46 rfl (lv_at hl 0 rfl) ?_
            refine c_draw S hK hP hS (rm_ok (Nat.le_of_ble_eq_true rfl)) hl.1 (Nat.le_of_ble_eq_true rfl) dX13_storms_47 (fun H locs hP hS => ?_)
            refine lv_bipush (v := 6) hx hb dX13_storms_50 (by decide) ?_
            refine lv_irem hx hb dX13_storms_52 (by decide) ?_
            refine kb_nat (y := nI (((p_dN r1) % 6))) (nn_rem rfl rfl (Nat.lt_trans (p_dN_lt _) (by decide)) (by decide) (by decide)) ?_
            refine lv_istore_n (lv' := [(3, .int ((nI ((p_dN r1) % 6)))), (0, .ref (t.2.1 0)), (1, .int ((nI n_))), (2, .int ((nI k)))]) hx hb dX13_storms_53 rfl hl (by decide) rfl (fun ls hl => ?_)
            refine lv_aload_n hx hb dX13_storms_54 rfl (lv_at hl 1 rfl) ?_
            refine mg_s S hK hP dX13_storms_55 ?_
            refine lv_bipush (v := 10) hx hb dX13_storms_58 (by decide) ?_
            refine lv_iload_n hx hb dX13_storms_60 rfl (lv_at hl 0 rfl) ?_
            refine lv_iadd hx hb dX13_storms_61 ?_
            refine lv_aload_n hx hb dX13_storms_62 rfl (lv_at hl 1 rfl) ?_
            refine c_draw S hK hP hS (rm_ok (Nat.le_of_ble_eq_true rfl)) hl.1 (Nat.le_of_ble_eq_true rfl) dX13_storms_63 (fun H locs hP hS => ?_)
            refine lv_bipush (v := 100) hx hb dX13_storms_66 (by decide) ?_
            refine lv_irem hx hb dX13_storms_68 (by decide) ?_
            refine kb_nat (y := nI (((p_dN (p_draw r1)) % 100))) (nn_rem rfl rfl (Nat.lt_trans (p_dN_lt _) (by decide)) (by decide) (by decide)) ?_
            refine mk_sts S hK hP hS ((10 + ((p_dN r1) % 6))) (by omega) (nn_add rfl rfl) dX13_storms_69 (fun H locs hP hS => ?_)
            refine lv_aload_n hx hb dX13_storms_70 rfl (lv_at hl 1 rfl) ?_
            refine c_day S hK hP hS (rm_ok (Nat.le_of_ble_eq_true rfl)) hl.1 ((b + k)) (pV_free (pV_draw (pV_draw hV1)) (by omega)) (by omega) (Nat.le_of_ble_eq_true rfl) dX13_storms_71 (fun H locs hP hS => ?_)
            refine lv_iinc (v := (nI (k + 1))) (lv' := [(2, .int ((nI (k + 1)))), (3, .int ((nI ((p_dN r1) % 6)))), (0, .ref (t.2.1 0)), (1, .int ((nI n_)))]) hx hb dX13_storms_74 hl (k := 3) rfl (nn_1 rfl) (by decide) rfl (fun ls hl => ?_)
            refine lv_goto (tgt := 41) hx hb dX13_storms_77 (by decide) ?_
            exact ih_41 ((k + 1)) _ _ _ ls (by omega) (by have h := he; rw [p_sts] at h; exact h) (pV_st1 (b := b + k) hV1 (by omega)) hP hS (lv_sub hl [2, 3, 0] rfl)
      exact lp_41 n_ 0 _ _ _ ls (by omega) (rfl) (hV) hP hS (lv_sub hl [1, 2, 0] rfl)
    · skip
      refine lv_aload_n hx hb dX13_storms_32 rfl (lv_at hl 0 rfl) ?_
      refine lv_ldc (v := (-1000005)) hx hb hown (hts _ q1388) dX13_storms_33 ?_
      refine c_finds S hK hP hS (rm_ok (Nat.le_of_ble_eq_true rfl)) hl.1 (4) (by decide) (by decide) (Nat.le_of_ble_eq_true rfl) dX13_storms_35 (fun H locs hP hS => ?_)
      exact kk_iretW S hr hlk hS (by simp only [o_storms, c_9, c_29, hcl_n_, Nat.not_le.mpr c_29, reduceIte, and_self, oF, oK, fx]; exact hP) (by simp only [o_storms, c_9, c_29, hcl_n_, Nat.not_le.mpr c_29, reduceIte, and_self, oF, oK, fnd] <;> first | rfl | decide) dX13_storms_38
  · skip
    refine lv_aload_n hx hb dX13_storms_12 rfl (lv_at hl 0 rfl) ?_
    refine lv_ldc (v := (-1000001)) hx hb hown (hts _ q1305) dX13_storms_13 ?_
    refine c_finds S hK hP hS (rm_ok (Nat.le_of_ble_eq_true rfl)) hl.1 (0) (by decide) (by decide) (Nat.le_of_ble_eq_true rfl) dX13_storms_15 (fun H locs hP hS => ?_)
    exact kk_iretW S hr hlk hS (by simp only [o_storms, c_9, reduceIte, and_self, oF, oK, fx]; exact hP) (by simp only [o_storms, c_9, reduceIte, and_self, oF, oK, fnd] <;> first | rfl | decide) dX13_storms_18
set_option maxHeartbeats 4000000 in
set_option maxRecDepth 100000 in
theorem k_seed (l : Launch) (t : MT) (r : Rw) (x : Nat → Rw) (v : Int32) : Met l yX13_seed (ws_ yX13_seed cX13_seed 2 (some .int)) (rmF 1) (va_Pc [.ref (t.2.1 0), .int v] (fun U => mK t U ∧ mW t r x U.heap)) (kW (some (.int ((o_seed r v).1))) (mW t ((o_seed r v).2.1) (fx x (o_seed r v).2.2)) (mA t)) 0 0 (mA t) := by
  refine kk_start (by decide) (Nat.le_of_ble_eq_true rfl) ?_
  intro p e s m below meth c S hr hlk hin hB ls hl
  obtain ⟨hK, hP⟩ := hB
  have hx := S.1
  have hb := S.2.1
  have hown : s.vm.findClass RX13 = some m.cls := S.2.2.2.1
  have hts := S.2.2.2.2
  have hS : va_S (mA t) s.heap s.heap [] := va_S.rf
  have hl : lv_has ls 2 [(0, .ref (t.2.1 0)), (1, .int (v))] := hl
  refine lv_aload_n hx hb dX13_seed_0 rfl (lv_at hl 0 rfl) ?_
  refine lv_iconst (v := 2) hx hb dX13_seed_1 (by decide) ?_
  refine lv_iload_n hx hb dX13_seed_2 rfl (lv_at hl 1 rfl) ?_
  refine c_becomes S hK hP hS (rm_ok (Nat.le_of_ble_eq_true rfl)) hl.1 (2) (by omega) rfl (Nat.le_of_ble_eq_true rfl) dX13_seed_3 (fun H locs hP hS => ?_)
  exact kk_iretW S hr hlk hS (by simp only [o_seed, reduceIte, and_self, oF, oK, fx]; exact hP) (by simp only [o_seed, reduceIte, and_self, oF, oK, fnd] <;> first | rfl | decide) dX13_seed_6
set_option maxHeartbeats 4000000 in
set_option maxRecDepth 100000 in
theorem k_wipe (l : Launch) (t : MT) (r : Rw) (x : Nat → Rw) : Met l yX13_wipe (ws_ yX13_wipe cX13_wipe 2 (some .int)) (rmF 0) (va_Pc [.ref (t.2.1 0)] (fun U => mK t U ∧ mW t r x U.heap)) (kW (some (.int (x 9 1))) (mW t (r) (va_up x 9 (upd (x 9) 1 0))) (mA t)) 0 0 (mA t) := by
  refine kk_start (by decide) (Nat.le_of_ble_eq_true rfl) ?_
  intro p e s m below meth c S hr hlk hin hB ls hl
  obtain ⟨hK, hP⟩ := hB
  have hx := S.1
  have hb := S.2.1
  have hown : s.vm.findClass RX13 = some m.cls := S.2.2.2.1
  have hts := S.2.2.2.2
  have hS : va_S (mA t) s.heap s.heap [] := va_S.rf
  have hl : lv_has ls 2 [(0, .ref (t.2.1 0))] := hl
  refine lv_aload_n hx hb dX13_wipe_0 rfl (lv_at hl 0 rfl) ?_
  refine mg_taped S hK hP dX13_wipe_1 ?_
  refine lv_istore_n (lv' := [(1, .int (x 9 1)), (0, .ref (t.2.1 0))]) hx hb dX13_wipe_4 rfl hl (by decide) rfl (fun ls hl => ?_)
  refine lv_aload_n hx hb dX13_wipe_5 rfl (lv_at hl 1 rfl) ?_
  refine lv_iconst (v := 0) hx hb dX13_wipe_6 (by decide) ?_
  refine mp_taped S hK hP hS dX13_wipe_7 (fun H locs hP hS => ?_)
  refine lv_iload_n hx hb dX13_wipe_10 rfl (lv_at hl 0 rfl) ?_
  exact kk_iretW S hr hlk hS (hP) (rfl) dX13_wipe_11
set_option maxHeartbeats 4000000 in
set_option maxRecDepth 100000 in
theorem k_hold (l : Launch) (t : MT) (r : Rw) (x : Nat → Rw) (y : Int32) (a : Int32) : Met l yX13_hold (ws_ yX13_hold cX13_hold 3 (some .int)) (rmF 1) (va_Pc [.ref (t.2.1 0), .int y, .int a] (fun U => mK t U ∧ mW t r x U.heap)) (kW (some (.int ((o_hold r y a).1))) (mW t ((o_hold r y a).2.1) (fx x (o_hold r y a).2.2)) (mA t)) 0 0 (mA t) := by
  refine kk_start (by decide) (Nat.le_of_ble_eq_true rfl) ?_
  intro p e s m below meth c S hr hlk hin hB ls hl
  obtain ⟨hK, hP⟩ := hB
  have hx := S.1
  have hb := S.2.1
  have hown : s.vm.findClass RX13 = some m.cls := S.2.2.2.1
  have hts := S.2.2.2.2
  have hS : va_S (mA t) s.heap s.heap [] := va_S.rf
  have hl : lv_has ls 3 [(0, .ref (t.2.1 0)), (1, .int (y)), (2, .int (a))] := hl
  refine lv_iload_n hx hb dX13_hold_0 rfl (lv_at hl 1 rfl) ?_
  refine lv_i2l hx hb dX13_hold_1 rfl ?_
  refine lv_lconst (v := (0 : Int32).toInt64) hx hb dX13_hold_2 (by decide) ?_
  refine lv_ldc2 (v := ((9) : Int32).toInt64) hx hb hown (hts _ q1297) dX13_hold_3 ?_
  refine c_isIn S (rm_ok (Nat.le_of_ble_eq_true rfl)) hl.1 (Nat.le_of_ble_eq_true rfl) dX13_hold_6 ?_
  refine kb_ifeq (tgt := 25) S dX13_hold_9 (by decide) (fun c_9 => ?_) (fun c_9 => ?_)
  · skip
    refine lv_aload_n hx hb dX13_hold_25 rfl (lv_at hl 0 rfl) ?_
    refine lv_ldc (v := (-1000001)) hx hb hown (hts _ q1305) dX13_hold_26 ?_
    refine c_finds S hK hP hS (rm_ok (Nat.le_of_ble_eq_true rfl)) hl.1 (0) (by decide) (by decide) (Nat.le_of_ble_eq_true rfl) dX13_hold_28 (fun H locs hP hS => ?_)
    exact kk_iretW S hr hlk hS (by simp only [o_hold, c_9, reduceIte, and_self, oF, oK, fx]; exact hP) (by simp only [o_hold, c_9, reduceIte, and_self, oF, oK, fnd] <;> first | rfl | decide) dX13_hold_31
  · skip
    refine lv_iload_n hx hb dX13_hold_12 rfl (lv_at hl 2 rfl) ?_
    refine lv_iconst (v := (-1)) hx hb dX13_hold_13 (by decide) ?_
    refine lv_icmp_eq (tgt := 32) hx hb dX13_hold_14 (by decide) (fun c_14 => ?_) (fun c_14 => ?_)
    · skip
      have hor : a = -1 ∨ (0 ≤ a ∧ a < r 0) := Or.inl c_14
      obtain ⟨y_, hy_, rfl⟩ := nat_of_le (n := 9) (rfl) (by omega) c_9
      have hcl_y_ := nI_clamp (n := y_) (by omega)
      refine lv_aload_n hx hb dX13_hold_32 rfl (lv_at hl 0 rfl) ?_
      refine mg_s S hK hP dX13_hold_33 ?_
      refine lv_bipush (v := 72) hx hb dX13_hold_36 (by decide) ?_
      refine lv_iload_n hx hb dX13_hold_38 rfl (lv_at hl 1 rfl) ?_
      refine lv_iadd hx hb dX13_hold_39 ?_
      refine lv_iload_n hx hb dX13_hold_40 rfl (lv_at hl 2 rfl) ?_
      refine mk_sts S hK hP hS ((72 + y_)) (by omega) (nn_add rfl rfl) dX13_hold_41 (fun H locs hP hS => ?_)
      refine lv_iconst (v := 1) hx hb dX13_hold_42 (by decide) ?_
      exact kk_iretW S hr hlk hS (by simp only [o_hold, c_9, hor, hcl_y_, reduceIte, and_self, oF, oK, fx]; exact hP) (by simp only [o_hold, c_9, hor, hcl_y_, reduceIte, and_self, oF, oK, fnd] <;> first | rfl | decide) dX13_hold_43
    · skip
      refine lv_aload_n hx hb dX13_hold_17 rfl (lv_at hl 0 rfl) ?_
      refine lv_iload_n hx hb dX13_hold_18 rfl (lv_at hl 2 rfl) ?_
      refine c_isCask S hK hP (rm_ok (Nat.le_of_ble_eq_true rfl)) hl.1 (Nat.le_of_ble_eq_true rfl) dX13_hold_19 ?_
      refine kb_ifne (tgt := 32) S dX13_hold_22 (by decide) (fun c_22 => ?_) (fun c_22 => ?_)
      · skip
        have hor : a = -1 ∨ (0 ≤ a ∧ a < r 0) := Or.inr c_22
        obtain ⟨y_, hy_, rfl⟩ := nat_of_le (n := 9) (rfl) (by omega) c_9
        have hcl_y_ := nI_clamp (n := y_) (by omega)
        refine lv_aload_n hx hb dX13_hold_32 rfl (lv_at hl 0 rfl) ?_
        refine mg_s S hK hP dX13_hold_33 ?_
        refine lv_bipush (v := 72) hx hb dX13_hold_36 (by decide) ?_
        refine lv_iload_n hx hb dX13_hold_38 rfl (lv_at hl 1 rfl) ?_
        refine lv_iadd hx hb dX13_hold_39 ?_
        refine lv_iload_n hx hb dX13_hold_40 rfl (lv_at hl 2 rfl) ?_
        refine mk_sts S hK hP hS ((72 + y_)) (by omega) (nn_add rfl rfl) dX13_hold_41 (fun H locs hP hS => ?_)
        refine lv_iconst (v := 1) hx hb dX13_hold_42 (by decide) ?_
        exact kk_iretW S hr hlk hS (by simp only [o_hold, c_9, hor, hcl_y_, reduceIte, and_self, oF, oK, fx]; exact hP) (by simp only [o_hold, c_9, hor, hcl_y_, reduceIte, and_self, oF, oK, fnd] <;> first | rfl | decide) dX13_hold_43
      · skip
        have hor : ¬ (a = -1 ∨ (0 ≤ a ∧ a < r 0)) := fun z => z.elim c_14 c_22
        refine lv_aload_n hx hb dX13_hold_25 rfl (lv_at hl 0 rfl) ?_
        refine lv_ldc (v := (-1000001)) hx hb hown (hts _ q1305) dX13_hold_26 ?_
        refine c_finds S hK hP hS (rm_ok (Nat.le_of_ble_eq_true rfl)) hl.1 (0) (by decide) (by decide) (Nat.le_of_ble_eq_true rfl) dX13_hold_28 (fun H locs hP hS => ?_)
        exact kk_iretW S hr hlk hS (by simp only [o_hold, c_9, hor, reduceIte, and_self, oF, oK, fx]; exact hP) (by simp only [o_hold, c_9, hor, reduceIte, and_self, oF, oK, fnd] <;> first | rfl | decide) dX13_hold_31
set_option maxHeartbeats 4000000 in
set_option maxRecDepth 100000 in
theorem k_isUnder (l : Launch) (o : Int32) (w : Int32) : Met l yX13_isUnder (ws_ yX13_isUnder cX13_isUnder 2 (some .boolean)) (rmF 0) (va_Pc [.int o, .int w] (fun _ => True)) (kR (some (.int (b2i (p_under o w))))) 0 0 (fun _ => False) := by
  refine kk_start (by decide) (Nat.le_of_ble_eq_true rfl) ?_
  intro p e s m below meth c S hr hlk hin hB ls hl
  have hx := S.1
  have hb := S.2.1
  have hown : s.vm.findClass RX13 = some m.cls := S.2.2.2.1
  have hts := S.2.2.2.2
  have hl : lv_has ls 2 [(0, .int (o)), (1, .int (w))] := hl
  refine lv_iload_n hx hb dX13_isUnder_0 rfl (lv_at hl 1 rfl) ?_
  refine lv_if_eq (tgt := 45) hx hb dX13_isUnder_1 (by decide) (fun c_1 => ?_) (fun c_1 => ?_)
  · skip
    refine lv_iconst (v := 1) hx hb dX13_isUnder_45 (by decide) ?_
    refine lv_goto (tgt := 50) hx hb dX13_isUnder_46 (by decide) ?_
    exact kk_ztR S hr hlk rfl rfl (by unfold p_under; grind) dX13_isUnder_50
  · skip
    refine lv_iload_n hx hb dX13_isUnder_4 rfl (lv_at hl 0 rfl) ?_
    refine lv_iload_n hx hb dX13_isUnder_5 rfl (lv_at hl 1 rfl) ?_
    refine lv_icmp_eq (tgt := 45) hx hb dX13_isUnder_6 (by decide) (fun c_6 => ?_) (fun c_6 => ?_)
    · skip
      refine lv_iconst (v := 1) hx hb dX13_isUnder_45 (by decide) ?_
      refine lv_goto (tgt := 50) hx hb dX13_isUnder_46 (by decide) ?_
      exact kk_ztR S hr hlk rfl rfl (by unfold p_under; grind) dX13_isUnder_50
    · skip
      refine lv_iload_n hx hb dX13_isUnder_9 rfl (lv_at hl 1 rfl) ?_
      refine lv_iconst (v := 2) hx hb dX13_isUnder_10 (by decide) ?_
      refine lv_icmp_ne (tgt := 24) hx hb dX13_isUnder_11 (by decide) (fun c_11 => ?_) (fun c_11 => ?_)
      · skip
        refine lv_iload_n hx hb dX13_isUnder_24 rfl (lv_at hl 1 rfl) ?_
        refine lv_iconst (v := 3) hx hb dX13_isUnder_25 (by decide) ?_
        refine lv_icmp_ne (tgt := 34) hx hb dX13_isUnder_26 (by decide) (fun c_26 => ?_) (fun c_26 => ?_)
        · skip
          refine lv_iload_n hx hb dX13_isUnder_34 rfl (lv_at hl 1 rfl) ?_
          refine lv_iconst (v := 1) hx hb dX13_isUnder_35 (by decide) ?_
          refine lv_icmp_ne (tgt := 49) hx hb dX13_isUnder_36 (by decide) (fun c_36 => ?_) (fun c_36 => ?_)
          · skip
            refine lv_iconst (v := 0) hx hb dX13_isUnder_49 (by decide) ?_
            exact kk_zfR S hr hlk rfl rfl (by unfold p_under; grind) dX13_isUnder_50
          · skip
            refine lv_iload_n hx hb dX13_isUnder_39 rfl (lv_at hl 0 rfl) ?_
            refine lv_bipush (v := 6) hx hb dX13_isUnder_40 (by decide) ?_
            refine lv_icmp_ne (tgt := 49) hx hb dX13_isUnder_42 (by decide) (fun c_42 => ?_) (fun c_42 => ?_)
            · skip
              refine lv_iconst (v := 0) hx hb dX13_isUnder_49 (by decide) ?_
              exact kk_zfR S hr hlk rfl rfl (by unfold p_under; grind) dX13_isUnder_50
            · skip
              refine lv_iconst (v := 1) hx hb dX13_isUnder_45 (by decide) ?_
              refine lv_goto (tgt := 50) hx hb dX13_isUnder_46 (by decide) ?_
              exact kk_ztR S hr hlk rfl rfl (by unfold p_under; grind) dX13_isUnder_50
        · skip
          refine lv_iload_n hx hb dX13_isUnder_29 rfl (lv_at hl 0 rfl) ?_
          refine lv_iconst (v := 4) hx hb dX13_isUnder_30 (by decide) ?_
          refine lv_icmp_eq (tgt := 45) hx hb dX13_isUnder_31 (by decide) (fun c_31 => ?_) (fun c_31 => ?_)
          · skip
            refine lv_iconst (v := 1) hx hb dX13_isUnder_45 (by decide) ?_
            refine lv_goto (tgt := 50) hx hb dX13_isUnder_46 (by decide) ?_
            exact kk_ztR S hr hlk rfl rfl (by unfold p_under; grind) dX13_isUnder_50
          · skip
            refine lv_iload_n hx hb dX13_isUnder_34 rfl (lv_at hl 1 rfl) ?_
            refine lv_iconst (v := 1) hx hb dX13_isUnder_35 (by decide) ?_
            refine lv_icmp_ne (tgt := 49) hx hb dX13_isUnder_36 (by decide) (fun c_36 => ?_) (fun c_36 => ?_)
            · skip
              refine lv_iconst (v := 0) hx hb dX13_isUnder_49 (by decide) ?_
              exact kk_zfR S hr hlk rfl rfl (by unfold p_under; grind) dX13_isUnder_50
            · skip
              refine lv_iload_n hx hb dX13_isUnder_39 rfl (lv_at hl 0 rfl) ?_
              refine lv_bipush (v := 6) hx hb dX13_isUnder_40 (by decide) ?_
              refine lv_icmp_ne (tgt := 49) hx hb dX13_isUnder_42 (by decide) (fun c_42 => ?_) (fun c_42 => ?_)
              · skip
                refine lv_iconst (v := 0) hx hb dX13_isUnder_49 (by decide) ?_
                exact kk_zfR S hr hlk rfl rfl (by unfold p_under; grind) dX13_isUnder_50
              · skip
                refine lv_iconst (v := 1) hx hb dX13_isUnder_45 (by decide) ?_
                refine lv_goto (tgt := 50) hx hb dX13_isUnder_46 (by decide) ?_
                exact kk_ztR S hr hlk rfl rfl (by unfold p_under; grind) dX13_isUnder_50
      · skip
        refine lv_iload_n hx hb dX13_isUnder_14 rfl (lv_at hl 0 rfl) ?_
        refine lv_iconst (v := 3) hx hb dX13_isUnder_15 (by decide) ?_
        refine lv_icmp_eq (tgt := 45) hx hb dX13_isUnder_16 (by decide) (fun c_16 => ?_) (fun c_16 => ?_)
        · skip
          refine lv_iconst (v := 1) hx hb dX13_isUnder_45 (by decide) ?_
          refine lv_goto (tgt := 50) hx hb dX13_isUnder_46 (by decide) ?_
          exact kk_ztR S hr hlk rfl rfl (by unfold p_under; grind) dX13_isUnder_50
        · skip
          refine lv_iload_n hx hb dX13_isUnder_19 rfl (lv_at hl 0 rfl) ?_
          refine lv_iconst (v := 4) hx hb dX13_isUnder_20 (by decide) ?_
          refine lv_icmp_eq (tgt := 45) hx hb dX13_isUnder_21 (by decide) (fun c_21 => ?_) (fun c_21 => ?_)
          · skip
            refine lv_iconst (v := 1) hx hb dX13_isUnder_45 (by decide) ?_
            refine lv_goto (tgt := 50) hx hb dX13_isUnder_46 (by decide) ?_
            exact kk_ztR S hr hlk rfl rfl (by unfold p_under; grind) dX13_isUnder_50
          · skip
            refine lv_iload_n hx hb dX13_isUnder_24 rfl (lv_at hl 1 rfl) ?_
            refine lv_iconst (v := 3) hx hb dX13_isUnder_25 (by decide) ?_
            refine lv_icmp_ne (tgt := 34) hx hb dX13_isUnder_26 (by decide) (fun c_26 => ?_) (fun c_26 => ?_)
            · skip
              refine lv_iload_n hx hb dX13_isUnder_34 rfl (lv_at hl 1 rfl) ?_
              refine lv_iconst (v := 1) hx hb dX13_isUnder_35 (by decide) ?_
              refine lv_icmp_ne (tgt := 49) hx hb dX13_isUnder_36 (by decide) (fun c_36 => ?_) (fun c_36 => ?_)
              · skip
                refine lv_iconst (v := 0) hx hb dX13_isUnder_49 (by decide) ?_
                exact kk_zfR S hr hlk rfl rfl (by unfold p_under; grind) dX13_isUnder_50
              · skip
                refine lv_iload_n hx hb dX13_isUnder_39 rfl (lv_at hl 0 rfl) ?_
                refine lv_bipush (v := 6) hx hb dX13_isUnder_40 (by decide) ?_
                refine lv_icmp_ne (tgt := 49) hx hb dX13_isUnder_42 (by decide) (fun c_42 => ?_) (fun c_42 => ?_)
                · skip
                  refine lv_iconst (v := 0) hx hb dX13_isUnder_49 (by decide) ?_
                  exact kk_zfR S hr hlk rfl rfl (by unfold p_under; grind) dX13_isUnder_50
                · skip
                  refine lv_iconst (v := 1) hx hb dX13_isUnder_45 (by decide) ?_
                  refine lv_goto (tgt := 50) hx hb dX13_isUnder_46 (by decide) ?_
                  exact kk_ztR S hr hlk rfl rfl (by unfold p_under; grind) dX13_isUnder_50
            · skip
              refine lv_iload_n hx hb dX13_isUnder_29 rfl (lv_at hl 0 rfl) ?_
              refine lv_iconst (v := 4) hx hb dX13_isUnder_30 (by decide) ?_
              refine lv_icmp_eq (tgt := 45) hx hb dX13_isUnder_31 (by decide) (fun c_31 => ?_) (fun c_31 => ?_)
              · skip
                refine lv_iconst (v := 1) hx hb dX13_isUnder_45 (by decide) ?_
                refine lv_goto (tgt := 50) hx hb dX13_isUnder_46 (by decide) ?_
                exact kk_ztR S hr hlk rfl rfl (by unfold p_under; grind) dX13_isUnder_50
              · skip
                refine lv_iload_n hx hb dX13_isUnder_34 rfl (lv_at hl 1 rfl) ?_
                refine lv_iconst (v := 1) hx hb dX13_isUnder_35 (by decide) ?_
                refine lv_icmp_ne (tgt := 49) hx hb dX13_isUnder_36 (by decide) (fun c_36 => ?_) (fun c_36 => ?_)
                · skip
                  refine lv_iconst (v := 0) hx hb dX13_isUnder_49 (by decide) ?_
                  exact kk_zfR S hr hlk rfl rfl (by unfold p_under; grind) dX13_isUnder_50
                · skip
                  refine lv_iload_n hx hb dX13_isUnder_39 rfl (lv_at hl 0 rfl) ?_
                  refine lv_bipush (v := 6) hx hb dX13_isUnder_40 (by decide) ?_
                  refine lv_icmp_ne (tgt := 49) hx hb dX13_isUnder_42 (by decide) (fun c_42 => ?_) (fun c_42 => ?_)
                  · skip
                    refine lv_iconst (v := 0) hx hb dX13_isUnder_49 (by decide) ?_
                    exact kk_zfR S hr hlk rfl rfl (by unfold p_under; grind) dX13_isUnder_50
                  · skip
                    refine lv_iconst (v := 1) hx hb dX13_isUnder_45 (by decide) ?_
                    refine lv_goto (tgt := 50) hx hb dX13_isUnder_46 (by decide) ?_
                    exact kk_ztR S hr hlk rfl rfl (by unfold p_under; grind) dX13_isUnder_50
section MC
variable {p : Program} {l : Launch} {e : Env} {R : Room} {s : State} {m : MethodId} {args : Array Value} {below : List Frame} {meth : Method} {c : Code} {H H0 : Heap} {locs : List Loc} {cells slots : Nat} {Q : State → Prop}
variable {cc : ByteArray} {pc nL : Nat} {ls : Array Slot} {rest : List Value} {t : MT} {r : Rw} {x : Nat → Rw}




theorem c_isUnder (S : CallFix p m c cc nL s args lw_all RX13) (hR : kRm R 1 cells slots) (hsz : ls.size = nL) {o : Int32} {w : Int32} (hrest : (rest.map fun v => v.category).sum ≤ 8) (hdg : decode cc pc = .ok (.invokestatic 279, 3)) (kk : W p l e R s m args below meth c H locs cells slots Q (F0 m (pc + 3) ls (.int (b2i (p_under o w)) :: rest))) : W p l e R s m args below meth c H locs cells slots Q (F0 m pc ls (.int w :: .int o :: rest)) := by
  exact kk_Ri (W.runS (As := [.int o, .int w]) (rest := rest) S (k_isUnder l o w) (va_cwS 2 S.2.2.2.2 (lw_S q1661 q1662 q117 q1663) rfl rfl rfl (by decide +kernel) ⟨hR.1, by have := hR.2.1; show 8 + (2 + 11) + 38 * 0 ≤ R.locals; omega⟩) ⟨kk_blindT, fun U hU hW => ⟨rfl, trivial⟩⟩ rfl rfl hsz rfl (lv_room hrest) hdg ⟨hR.2.2.1, hR.2.2.2⟩) kk
end MC

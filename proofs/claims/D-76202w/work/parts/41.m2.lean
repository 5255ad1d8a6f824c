set_option maxHeartbeats 4000000 in
set_option maxRecDepth 100000 in
theorem k_cellar (l : Launch) (t : MT) (r : Rw) (x : Nat → Rw) (a : Int32) (w : Int32) (b : Nat) (hV : pV b r) : Met l yX13_cellar (ws_ yX13_cellar cX13_cellar 3 (some .int)) (rmF 2) (va_Pc [.ref (t.2.1 0), .int a, .int w] (fun U => mK t U ∧ mW t r x U.heap)) (kW (some (.int ((o_cellar r a w).1))) (mW t ((o_cellar r a w).2.1) (fx x (o_cellar r a w).2.2)) (mA t)) 0 0 (mA t) := by
  refine kk_start (by decide) (Nat.le_of_ble_eq_true rfl) ?_
  intro p e s m below meth c S hr hlk hin hB ls hl
  obtain ⟨hK, hP⟩ := hB
  have hx := S.1
  have hb := S.2.1
  have hown : s.vm.findClass RX13 = some m.cls := S.2.2.2.1
  have hts := S.2.2.2.2
  have hS : va_S (mA t) s.heap s.heap [] := va_S.rf
  have hl : lv_has ls 3 [(0, .ref (t.2.1 0)), (1, .int (a)), (2, .int (w))] := hl
  have hn := hV.n.1
  have hn8 := hV.n.2
  refine lv_iload_n hx hb dX13_cellar_0 rfl (lv_at hl 1 rfl) ?_
  refine c_isCellar S (rm_ok (Nat.le_of_ble_eq_true rfl)) hl.1 (Nat.le_of_ble_eq_true rfl) dX13_cellar_1 ?_
  refine kb_ifeq (tgt := 19) S dX13_cellar_4 (by decide) (fun c_4 => ?_) (fun c_4 => ?_)
  · skip
    refine lv_aload_n hx hb dX13_cellar_19 rfl (lv_at hl 0 rfl) ?_
    refine lv_ldc (v := (-1000001)) hx hb hown (hts _ q1305) dX13_cellar_20 ?_
    refine c_finds S hK hP hS (rm_ok (Nat.le_of_ble_eq_true rfl)) hl.1 (0) (by decide) (by decide) (Nat.le_of_ble_eq_true rfl) dX13_cellar_22 (fun H locs hP hS => ?_)
    exact kk_iretW S hr hlk hS (by simp only [o_cellar, c_4, reduceIte, and_self, oF, oK, fx]; exact hP) (by simp only [o_cellar, c_4, reduceIte, and_self, oF, oK, fnd] <;> first | rfl | decide) dX13_cellar_25
  · skip
    refine lv_iload_n hx hb dX13_cellar_7 rfl (lv_at hl 2 rfl) ?_
    refine lv_i2l hx hb dX13_cellar_8 rfl ?_
    refine lv_lconst (v := (0 : Int32).toInt64) hx hb dX13_cellar_9 (by decide) ?_
    refine lv_ldc2 (v := ((3) : Int32).toInt64) hx hb hown (hts _ q1314) dX13_cellar_10 ?_
    refine c_isIn S (rm_ok (Nat.le_of_ble_eq_true rfl)) hl.1 (Nat.le_of_ble_eq_true rfl) dX13_cellar_13 ?_
    refine kb_ifne (tgt := 26) S dX13_cellar_16 (by decide) (fun c_16 => ?_) (fun c_16 => ?_)
    · skip
      obtain ⟨a_, ha_, rfl⟩ := nat_of_lt (n := 6) (rfl) (by omega) c_4
      have hcl_a_ := nI_clamp (n := a_) (by omega)
      refine lv_iload_n hx hb dX13_cellar_26 rfl (lv_at hl 2 rfl) ?_
      refine lv_if_ne (tgt := 41) hx hb dX13_cellar_27 (by decide) (fun c_27 => ?_) (fun c_27 => ?_)
      · skip
        refine lv_iload_n hx hb dX13_cellar_41 rfl (lv_at hl 2 rfl) ?_
        refine lv_iconst (v := 1) hx hb dX13_cellar_42 (by decide) ?_
        refine lv_icmp_ne (tgt := 58) hx hb dX13_cellar_43 (by decide) (fun c_43 => ?_) (fun c_43 => ?_)
        · skip
          refine lv_iload_n hx hb dX13_cellar_58 rfl (lv_at hl 2 rfl) ?_
          refine lv_iconst (v := 2) hx hb dX13_cellar_59 (by decide) ?_
          refine lv_icmp_ne (tgt := 71) hx hb dX13_cellar_60 (by decide) (fun c_60 => ?_) (fun c_60 => ?_)
          · skip
            refine lv_aload_n hx hb dX13_cellar_71 rfl (lv_at hl 0 rfl) ?_
            refine lv_iload_n hx hb dX13_cellar_72 rfl (lv_at hl 1 rfl) ?_
            refine c_emptiest S hK hP (rm_ok (Nat.le_of_ble_eq_true rfl)) hl.1 (b) hV (Nat.le_of_ble_eq_true rfl) dX13_cellar_73 ?_
            exact kk_iretW S hr hlk hS (by simp only [o_cellar, c_4, c_16, c_27, c_43, c_60, hcl_a_, reduceIte, and_self, oF, oK, fx]; exact hP) (by simp only [o_cellar, c_4, c_16, c_27, c_43, c_60, hcl_a_, reduceIte, and_self, oF, oK, fnd] <;> first | rfl | decide) dX13_cellar_76
          · skip
            refine lv_aload_n hx hb dX13_cellar_63 rfl (lv_at hl 0 rfl) ?_
            refine lv_iload_n hx hb dX13_cellar_64 rfl (lv_at hl 1 rfl) ?_
            refine c_there S hK hP (rm_ok (Nat.le_of_ble_eq_true rfl)) hl.1 (b) hV (Nat.le_of_ble_eq_true rfl) dX13_cellar_65 ?_
            refine lv_goto (tgt := 76) hx hb dX13_cellar_68 (by decide) ?_
            exact kk_iretW S hr hlk hS (by simp only [o_cellar, c_4, c_16, c_27, c_43, c_60, hcl_a_, reduceIte, and_self, oF, oK, fx]; exact hP) (by simp only [o_cellar, c_4, c_16, c_27, c_43, c_60, hcl_a_, reduceIte, and_self, oF, oK, fnd] <;> first | rfl | decide) dX13_cellar_76
        · skip
          refine lv_aload_n hx hb dX13_cellar_46 rfl (lv_at hl 0 rfl) ?_
          refine mg_s S hK hP dX13_cellar_47 ?_
          refine lv_bipush (v := 10) hx hb dX13_cellar_50 (by decide) ?_
          refine lv_iload_n hx hb dX13_cellar_52 rfl (lv_at hl 1 rfl) ?_
          refine lv_iadd hx hb dX13_cellar_53 ?_
          refine mk_lds S hK hP ((10 + a_)) (by omega) (nn_add rfl rfl) dX13_cellar_54 ?_
          refine lv_goto (tgt := 76) hx hb dX13_cellar_55 (by decide) ?_
          exact kk_iretW S hr hlk hS (by simp only [o_cellar, c_4, c_16, c_27, c_43, hcl_a_, reduceIte, and_self, oF, oK, fx]; exact hP) (by simp only [o_cellar, c_4, c_16, c_27, c_43, hcl_a_, reduceIte, and_self, oF, oK, fnd] <;> first | rfl | decide) dX13_cellar_76
      · skip
        refine lv_aload_n hx hb dX13_cellar_30 rfl (lv_at hl 0 rfl) ?_
        refine mg_s S hK hP dX13_cellar_31 ?_
        refine lv_iconst (v := 4) hx hb dX13_cellar_34 (by decide) ?_
        refine lv_iload_n hx hb dX13_cellar_35 rfl (lv_at hl 1 rfl) ?_
        refine lv_iadd hx hb dX13_cellar_36 ?_
        refine mk_lds S hK hP ((4 + a_)) (by omega) (nn_add rfl rfl) dX13_cellar_37 ?_
        refine lv_goto (tgt := 76) hx hb dX13_cellar_38 (by decide) ?_
        exact kk_iretW S hr hlk hS (by simp only [o_cellar, c_4, c_16, c_27, hcl_a_, reduceIte, and_self, oF, oK, fx]; exact hP) (by simp only [o_cellar, c_4, c_16, c_27, hcl_a_, reduceIte, and_self, oF, oK, fnd] <;> first | rfl | decide) dX13_cellar_76
    · skip
      refine lv_aload_n hx hb dX13_cellar_19 rfl (lv_at hl 0 rfl) ?_
      refine lv_ldc (v := (-1000001)) hx hb hown (hts _ q1305) dX13_cellar_20 ?_
      refine c_finds S hK hP hS (rm_ok (Nat.le_of_ble_eq_true rfl)) hl.1 (0) (by decide) (by decide) (Nat.le_of_ble_eq_true rfl) dX13_cellar_22 (fun H locs hP hS => ?_)
      exact kk_iretW S hr hlk hS (by simp only [o_cellar, c_4, c_16, reduceIte, and_self, oF, oK, fx]; exact hP) (by simp only [o_cellar, c_4, c_16, reduceIte, and_self, oF, oK, fnd] <;> first | rfl | decide) dX13_cellar_25
section MC
variable {p : Program} {l : Launch} {e : Env} {R : Room} {s : State} {m : MethodId} {args : Array Value} {below : List Frame} {meth : Method} {c : Code} {H H0 : Heap} {locs : List Loc} {cells slots : Nat} {Q : State → Prop}
variable {cc : ByteArray} {pc nL : Nat} {ls : Array Slot} {rest : List Value} {t : MT} {r : Rw} {x : Nat → Rw}

end MC
set_option maxHeartbeats 4000000 in
set_option maxRecDepth 100000 in
theorem k_comes (l : Launch) (t : MT) (r : Rw) (x : Nat → Rw) (i : Int32) (v : Int32) (b : Nat) (hV : pV b r) (h8 : pN r < 8) : Met l yX13_comes (ws_ yX13_comes cX13_comes 4 none) (rmF 1) (va_Pc [.ref (t.2.1 0), .int i, .int v] (fun U => mK t U ∧ mW t r x U.heap)) (kW none (mW t (p_comes r i v) (x)) (mA t)) 0 0 (mA t) := by
  refine kk_start (by decide) (Nat.le_of_ble_eq_true rfl) ?_
  intro p e s m below meth c S hr hlk hin hB ls hl
  obtain ⟨hK, hP⟩ := hB
  have hx := S.1
  have hb := S.2.1
  have hown : s.vm.findClass RX13 = some m.cls := S.2.2.2.1
  have hts := S.2.2.2.2
  have hS : va_S (mA t) s.heap s.heap [] := va_S.rf
  have hl : lv_has ls 4 [(0, .ref (t.2.1 0)), (1, .int (i)), (2, .int (v))] := hl
  have hn := hV.n.1
  have hn8 := hV.n.2
  refine lv_aload_n hx hb dX13_comes_0 rfl (lv_at hl 0 rfl) ?_
  refine mg_s S hK hP dX13_comes_1 ?_
  refine lv_iconst (v := 0) hx hb dX13_comes_4 (by decide) ?_
  refine mk_lds S hK hP (0) (by omega) rfl dX13_comes_5 ?_
  refine kb_nat (y := nI ((pN r))) hn ?_
  refine lv_istore_n (lv' := [(3, .int ((nI (pN r)))), (0, .ref (t.2.1 0)), (1, .int (i)), (2, .int (v))]) hx hb dX13_comes_6 rfl hl (by decide) rfl (fun ls hl => ?_)
  refine lv_aload_n hx hb dX13_comes_7 rfl (lv_at hl 1 rfl) ?_
  refine mg_s S hK hP dX13_comes_8 ?_
  refine lv_iload_n hx hb dX13_comes_11 rfl (lv_at hl 0 rfl) ?_
  refine lv_iconst (v := 0) hx hb dX13_comes_12 (by decide) ?_
  refine c_at S (rm_ok (Nat.le_of_ble_eq_true rfl)) hl.1 ((pN r)) (0) rfl rfl (Nat.le_of_ble_eq_true rfl) dX13_comes_13 ?_
  refine lv_iload_n hx hb dX13_comes_16 rfl (lv_at hl 2 rfl) ?_
  refine mk_sts S hK hP hS ((16 + 7 * (pN r) + 0)) (by omega) rfl dX13_comes_17 (fun H locs hP hS => ?_)
  refine lv_aload_n hx hb dX13_comes_18 rfl (lv_at hl 1 rfl) ?_
  refine mg_s S hK hP dX13_comes_19 ?_
  refine lv_iload_n hx hb dX13_comes_22 rfl (lv_at hl 0 rfl) ?_
  refine lv_iconst (v := 1) hx hb dX13_comes_23 (by decide) ?_
  refine c_at S (rm_ok (Nat.le_of_ble_eq_true rfl)) hl.1 ((pN r)) (1) rfl rfl (Nat.le_of_ble_eq_true rfl) dX13_comes_24 ?_
  refine lv_iload_n hx hb dX13_comes_27 rfl (lv_at hl 3 rfl) ?_
  refine mk_sts S hK hP hS ((16 + 7 * (pN r) + 1)) (by omega) rfl dX13_comes_28 (fun H locs hP hS => ?_)
  refine lv_aload_n hx hb dX13_comes_29 rfl (lv_at hl 1 rfl) ?_
  refine mg_s S hK hP dX13_comes_30 ?_
  refine lv_iload_n hx hb dX13_comes_33 rfl (lv_at hl 0 rfl) ?_
  refine lv_iconst (v := 2) hx hb dX13_comes_34 (by decide) ?_
  refine c_at S (rm_ok (Nat.le_of_ble_eq_true rfl)) hl.1 ((pN r)) (2) rfl rfl (Nat.le_of_ble_eq_true rfl) dX13_comes_35 ?_
  refine lv_iconst (v := 0) hx hb dX13_comes_38 (by decide) ?_
  refine mk_sts S hK hP hS ((16 + 7 * (pN r) + 2)) (by omega) rfl dX13_comes_39 (fun H locs hP hS => ?_)
  refine lv_aload_n hx hb dX13_comes_40 rfl (lv_at hl 1 rfl) ?_
  refine mg_s S hK hP dX13_comes_41 ?_
  refine lv_iload_n hx hb dX13_comes_44 rfl (lv_at hl 0 rfl) ?_
  refine lv_iconst (v := 3) hx hb dX13_comes_45 (by decide) ?_
  refine c_at S (rm_ok (Nat.le_of_ble_eq_true rfl)) hl.1 ((pN r)) (3) rfl rfl (Nat.le_of_ble_eq_true rfl) dX13_comes_46 ?_
  refine lv_iconst (v := 0) hx hb dX13_comes_49 (by decide) ?_
  refine mk_sts S hK hP hS ((16 + 7 * (pN r) + 3)) (by omega) rfl dX13_comes_50 (fun H locs hP hS => ?_)
  refine lv_aload_n hx hb dX13_comes_51 rfl (lv_at hl 1 rfl) ?_
  refine mg_s S hK hP dX13_comes_52 ?_
  refine lv_iload_n hx hb dX13_comes_55 rfl (lv_at hl 0 rfl) ?_
  refine lv_iconst (v := 4) hx hb dX13_comes_56 (by decide) ?_
  refine c_at S (rm_ok (Nat.le_of_ble_eq_true rfl)) hl.1 ((pN r)) (4) rfl rfl (Nat.le_of_ble_eq_true rfl) dX13_comes_57 ?_
  refine lv_bipush (v := 100) hx hb dX13_comes_60 (by decide) ?_
  refine mk_sts S hK hP hS ((16 + 7 * (pN r) + 4)) (by omega) rfl dX13_comes_62 (fun H locs hP hS => ?_)
  refine lv_aload_n hx hb dX13_comes_63 rfl (lv_at hl 1 rfl) ?_
  refine mg_s S hK hP dX13_comes_64 ?_
  refine lv_iload_n hx hb dX13_comes_67 rfl (lv_at hl 0 rfl) ?_
  refine lv_iconst (v := 5) hx hb dX13_comes_68 (by decide) ?_
  refine c_at S (rm_ok (Nat.le_of_ble_eq_true rfl)) hl.1 ((pN r)) (5) rfl rfl (Nat.le_of_ble_eq_true rfl) dX13_comes_69 ?_
  refine lv_iconst (v := 0) hx hb dX13_comes_72 (by decide) ?_
  refine mk_sts S hK hP hS ((16 + 7 * (pN r) + 5)) (by omega) rfl dX13_comes_73 (fun H locs hP hS => ?_)
  refine lv_aload_n hx hb dX13_comes_74 rfl (lv_at hl 1 rfl) ?_
  refine mg_s S hK hP dX13_comes_75 ?_
  refine lv_iload_n hx hb dX13_comes_78 rfl (lv_at hl 0 rfl) ?_
  refine lv_bipush (v := 6) hx hb dX13_comes_79 (by decide) ?_
  refine c_at S (rm_ok (Nat.le_of_ble_eq_true rfl)) hl.1 ((pN r)) (6) rfl rfl (Nat.le_of_ble_eq_true rfl) dX13_comes_81 ?_
  refine lv_iconst (v := 0) hx hb dX13_comes_84 (by decide) ?_
  refine mk_sts S hK hP hS ((16 + 7 * (pN r) + 6)) (by omega) rfl dX13_comes_85 (fun H locs hP hS => ?_)
  refine lv_aload_n hx hb dX13_comes_86 rfl (lv_at hl 1 rfl) ?_
  refine mg_s S hK hP dX13_comes_87 ?_
  refine lv_iconst (v := 0) hx hb dX13_comes_90 (by decide) ?_
  refine lv_dup2_11 hx hb dX13_comes_91 rfl rfl ?_
  refine mk_lds S hK hP (0) (by omega) rfl dX13_comes_92 ?_
  refine lv_iconst (v := 1) hx hb dX13_comes_93 (by decide) ?_
  refine lv_iadd hx hb dX13_comes_94 ?_
  refine mk_sts S hK hP hS (0) (by omega) rfl dX13_comes_95 (fun H locs hP hS => ?_)
  exact kk_vretW S hr hlk hS (by (have e : (upd (upd (upd (upd (upd (upd (upd r (16 + 7 * pN r + 0) i) (16 + 7 * pN r + 1) v) (16 + 7 * pN r + 2) 0) (16 + 7 * pN r + 3) 0) (16 + 7 * pN r + 4) 100) (16 + 7 * pN r + 5) 0) (16 + 7 * pN r + 6) 0) 0 = r 0 := (by (repeat rw [up_n (by omega)]))); rw [e] at hP; exact hP) dX13_comes_96
section MC
variable {p : Program} {l : Launch} {e : Env} {R : Room} {s : State} {m : MethodId} {args : Array Value} {below : List Frame} {meth : Method} {c : Code} {H H0 : Heap} {locs : List Loc} {cells slots : Nat} {Q : State → Prop}
variable {cc : ByteArray} {pc nL : Nat} {ls : Array Slot} {rest : List Value} {t : MT} {r : Rw} {x : Nat → Rw}
theorem c_comes (S : CallFix p m c cc nL s args lw_all RX13) (hK : mK t s) (hP : mW t r x H) (hS : va_S (mA t) H0 H locs) (hR : kRm R 2 cells slots) (hsz : ls.size = nL) {i : Int32} {v : Int32} (b : Nat) (hV : pV b r) (h8 : pN r < 8) (hrest : (rest.map fun v => v.category).sum ≤ 8) (hdg : decode cc pc = .ok (.invokevirtual 76, 3)) (kk : ∀ (H1 : Heap) (locs1 : List Loc), mW t (p_comes r i v) (x) H1 → va_S (mA t) H0 H1 locs1 → W p l e R s m args below meth c H1 locs1 cells slots Q (F0 m (pc + 3) ls (rest))) : W p l e R s m args below meth c H locs cells slots Q (F0 m pc ls (.int v :: .int i :: .ref (t.2.1 0) :: rest)) := by
  exact kk_Wv (W.runV (As := [.int i, .int v]) (rest := rest) S (k_comes l t r x i v b hV h8) (cwV 2 S.2.2.2.2 (lw_V q1338 q1340 qs60 q117 q1341) rfl rfl rfl (by decide +kernel) ⟨hR.1, by have := hR.2.1; show 8 + (4 + 11) + 38 * 1 ≤ R.locals; omega⟩) ⟨m_blind, m_recv hK hP, m_pre hK hP⟩ rfl rfl hsz rfl (lv_room hrest) hdg ⟨hR.2.2.1, hR.2.2.2⟩) hS (fun _ h => h) (fun _ h => h) (fun H1 locs1 hB _ _ hS => kk H1 locs1 hB hS)
end MC
set_option maxHeartbeats 4000000 in
set_option maxRecDepth 100000 in
theorem k_cask (l : Launch) (t : MT) (r : Rw) (x : Nat → Rw) (i : Int32) (v : Int32) (b : Nat) (hV : pV b r) : Met l yX13_cask (ws_ yX13_cask cX13_cask 3 (some .int)) (rmF 2) (va_Pc [.ref (t.2.1 0), .int i, .int v] (fun U => mK t U ∧ mW t r x U.heap)) (kW (some (.int ((o_cask r i v).1))) (mW t ((o_cask r i v).2.1) (fx x (o_cask r i v).2.2)) (mA t)) 0 0 (mA t) := by
  refine kk_start (by decide) (Nat.le_of_ble_eq_true rfl) ?_
  intro p e s m below meth c S hr hlk hin hB ls hl
  obtain ⟨hK, hP⟩ := hB
  have hx := S.1
  have hb := S.2.1
  have hown : s.vm.findClass RX13 = some m.cls := S.2.2.2.1
  have hts := S.2.2.2.2
  have hS : va_S (mA t) s.heap s.heap [] := va_S.rf
  have hl : lv_has ls 3 [(0, .ref (t.2.1 0)), (1, .int (i)), (2, .int (v))] := hl
  have hn := hV.n.1
  have hn8 := hV.n.2
  refine lv_iload_n hx hb dX13_cask_0 rfl (lv_at hl 1 rfl) ?_
  refine lv_i2l hx hb dX13_cask_1 rfl ?_
  refine lv_lconst (v := (0 : Int32).toInt64) hx hb dX13_cask_2 (by decide) ?_
  refine lv_ldc2 (v := ((6) : Int32).toInt64) hx hb hown (hts _ q1336) dX13_cask_3 ?_
  refine c_isIn S (rm_ok (Nat.le_of_ble_eq_true rfl)) hl.1 (Nat.le_of_ble_eq_true rfl) dX13_cask_6 ?_
  refine kb_ifeq (tgt := 19) S dX13_cask_9 (by decide) (fun c_9 => ?_) (fun c_9 => ?_)
  · skip
    refine lv_aload_n hx hb dX13_cask_19 rfl (lv_at hl 0 rfl) ?_
    refine lv_ldc (v := (-1000001)) hx hb hown (hts _ q1305) dX13_cask_20 ?_
    refine c_finds S hK hP hS (rm_ok (Nat.le_of_ble_eq_true rfl)) hl.1 (0) (by decide) (by decide) (Nat.le_of_ble_eq_true rfl) dX13_cask_22 (fun H locs hP hS => ?_)
    exact kk_iretW S hr hlk hS (by simp only [o_cask, c_9, reduceIte, and_self, oF, oK, fx]; exact hP) (by simp only [o_cask, c_9, reduceIte, and_self, oF, oK, fnd] <;> first | rfl | decide) dX13_cask_25
  · skip
    refine lv_iload_n hx hb dX13_cask_12 rfl (lv_at hl 2 rfl) ?_
    refine c_isCellar S (rm_ok (Nat.le_of_ble_eq_true rfl)) hl.1 (Nat.le_of_ble_eq_true rfl) dX13_cask_13 ?_
    refine kb_ifne (tgt := 26) S dX13_cask_16 (by decide) (fun c_16 => ?_) (fun c_16 => ?_)
    · skip
      refine lv_aload_n hx hb dX13_cask_26 rfl (lv_at hl 0 rfl) ?_
      refine mg_s S hK hP dX13_cask_27 ?_
      refine lv_iconst (v := 0) hx hb dX13_cask_30 (by decide) ?_
      refine mk_lds S hK hP (0) (by omega) rfl dX13_cask_31 ?_
      refine lv_bipush (v := 8) hx hb dX13_cask_32 (by decide) ?_
      refine kb_ne_n (tgt := 44) (a := (pN r)) (b := 8) S hn rfl (by omega) (by omega) dX13_cask_34 (by decide) (fun c_34 => ?_) (fun c_34 => ?_)
      · skip
        refine lv_aload_n hx hb dX13_cask_44 rfl (lv_at hl 0 rfl) ?_
        refine lv_iload_n hx hb dX13_cask_45 rfl (lv_at hl 1 rfl) ?_
        refine lv_iload_n hx hb dX13_cask_46 rfl (lv_at hl 2 rfl) ?_
        refine c_comes S hK hP hS (rm_ok (Nat.le_of_ble_eq_true rfl)) hl.1 (b) hV (by omega) (Nat.le_of_ble_eq_true rfl) dX13_cask_47 (fun H locs hP hS => ?_)
        refine lv_aload_n hx hb dX13_cask_50 rfl (lv_at hl 0 rfl) ?_
        refine mg_s S hK hP dX13_cask_51 ?_
        refine lv_iconst (v := 0) hx hb dX13_cask_54 (by decide) ?_
        refine mk_lds S hK hP (0) (by omega) rfl dX13_cask_55 ?_
        refine lv_iconst (v := 1) hx hb dX13_cask_56 (by decide) ?_
        refine lv_isub hx hb dX13_cask_57 ?_
        exact kk_iretW S hr hlk hS (by simp only [o_cask, c_9, c_16, c_34, reduceIte, and_self, oF, oK, fx]; exact hP) (by simp only [o_cask, c_9, c_16, c_34, reduceIte, and_self, oF, oK, fnd] <;> first | rfl | decide) dX13_cask_58
      · skip
        refine lv_aload_n hx hb dX13_cask_37 rfl (lv_at hl 0 rfl) ?_
        refine lv_ldc (v := (-1000002)) hx hb hown (hts _ q1337) dX13_cask_38 ?_
        refine c_finds S hK hP hS (rm_ok (Nat.le_of_ble_eq_true rfl)) hl.1 (1) (by decide) (by decide) (Nat.le_of_ble_eq_true rfl) dX13_cask_40 (fun H locs hP hS => ?_)
        exact kk_iretW S hr hlk hS (by simp only [o_cask, c_9, c_16, c_34, reduceIte, and_self, oF, oK, fx]; exact hP) (by simp only [o_cask, c_9, c_16, c_34, reduceIte, and_self, oF, oK, fnd] <;> first | rfl | decide) dX13_cask_43
    · skip
      refine lv_aload_n hx hb dX13_cask_19 rfl (lv_at hl 0 rfl) ?_
      refine lv_ldc (v := (-1000001)) hx hb hown (hts _ q1305) dX13_cask_20 ?_
      refine c_finds S hK hP hS (rm_ok (Nat.le_of_ble_eq_true rfl)) hl.1 (0) (by decide) (by decide) (Nat.le_of_ble_eq_true rfl) dX13_cask_22 (fun H locs hP hS => ?_)
      exact kk_iretW S hr hlk hS (by simp only [o_cask, c_9, c_16, reduceIte, and_self, oF, oK, fx]; exact hP) (by simp only [o_cask, c_9, c_16, reduceIte, and_self, oF, oK, fnd] <;> first | rfl | decide) dX13_cask_25
set_option maxHeartbeats 4000000 in
set_option maxRecDepth 100000 in
theorem k_leaks (l : Launch) (t : MT) (r : Rw) (x : Nat → Rw) (k : Nat) (b : Nat) (hk : k < 8) (hV : pV b r) : Met l yX13_leaks (ws_ yX13_leaks cX13_leaks 2 (some .int)) (rmF 1) (va_Pc [.ref (t.2.1 0), .int (nI k)] (fun U => mK t U ∧ mW t r x U.heap)) (kR (some (.int (p_leaks r k)))) 0 0 (fun _ => False) := by
  refine kk_start (by decide) (Nat.le_of_ble_eq_true rfl) ?_
  intro p e s m below meth c S hr hlk hin hB ls hl
  obtain ⟨hK, hP⟩ := hB
  have hx := S.1
  have hb := S.2.1
  have hown : s.vm.findClass RX13 = some m.cls := S.2.2.2.1
  have hts := S.2.2.2.2
  have hl : lv_has ls 2 [(0, .ref (t.2.1 0)), (1, .int ((nI k)))] := hl
  have hk7 := (hV.k hk).2
  have hc6 := (hV.c hk).2
  refine lv_aload_n hx hb dX13_leaks_0 rfl (lv_at hl 0 rfl) ?_
  refine lv_iload_n hx hb dX13_leaks_1 rfl (lv_at hl 1 rfl) ?_
  refine lv_iconst (v := 0) hx hb dX13_leaks_2 (by decide) ?_
  refine c_its S hK hP (rm_ok (Nat.le_of_ble_eq_true rfl)) hl.1 (k) (0) (by omega) (by omega) rfl rfl (Nat.le_of_ble_eq_true rfl) dX13_leaks_3 ?_
  rcases (show (pK r k) = 0 ∨ (pK r k) = 1 ∨ (pK r k) = 2 ∨ (pK r k) = 3 ∨ (pK r k) = 4 ∨ (pK r k) = 5 ∨ (pK r k) = 6 by omega) with c_6 | c_6 | c_6 | c_6 | c_6 | c_6 | c_6
  · skip
    refine kb_tabOut (tgt := 50) S (((hV.k hk).1).trans (congrArg nI c_6)) (by decide) dX13_leaks_6 (by decide) (by decide) ?_
    refine lv_iconst (v := 1) hx hb dX13_leaks_50 (by decide) ?_
    exact kk_iretR S hr hlk rfl rfl (by unfold p_leaks; rw [c_6]; rfl) dX13_leaks_51
  · skip
    refine kb_tabIn (tgt := 44) S (((hV.k hk).1).trans (congrArg nI c_6)) (by decide) dX13_leaks_6 (by decide) (by decide) rfl (by decide) ?_
    refine lv_iconst (v := 3) hx hb dX13_leaks_44 (by decide) ?_
    exact kk_iretR S hr hlk rfl rfl (by unfold p_leaks; rw [c_6]; rfl) dX13_leaks_45
  · skip
    refine kb_tabIn (tgt := 50) S (((hV.k hk).1).trans (congrArg nI c_6)) (by decide) dX13_leaks_6 (by decide) (by decide) rfl (by decide) ?_
    refine lv_iconst (v := 1) hx hb dX13_leaks_50 (by decide) ?_
    exact kk_iretR S hr hlk rfl rfl (by unfold p_leaks; rw [c_6]; rfl) dX13_leaks_51
  · skip
    refine kb_tabIn (tgt := 46) S (((hV.k hk).1).trans (congrArg nI c_6)) (by decide) dX13_leaks_6 (by decide) (by decide) rfl (by decide) ?_
    refine lv_iconst (v := 0) hx hb dX13_leaks_46 (by decide) ?_
    exact kk_iretR S hr hlk rfl rfl (by unfold p_leaks; rw [c_6]; rfl) dX13_leaks_47
  · skip
    refine kb_tabIn (tgt := 46) S (((hV.k hk).1).trans (congrArg nI c_6)) (by decide) dX13_leaks_6 (by decide) (by decide) rfl (by decide) ?_
    refine lv_iconst (v := 0) hx hb dX13_leaks_46 (by decide) ?_
    exact kk_iretR S hr hlk rfl rfl (by unfold p_leaks; rw [c_6]; rfl) dX13_leaks_47
  · skip
    refine kb_tabIn (tgt := 48) S (((hV.k hk).1).trans (congrArg nI c_6)) (by decide) dX13_leaks_6 (by decide) (by decide) rfl (by decide) ?_
    refine lv_iconst (v := 5) hx hb dX13_leaks_48 (by decide) ?_
    exact kk_iretR S hr hlk rfl rfl (by unfold p_leaks; rw [c_6]; rfl) dX13_leaks_49
  · skip
    refine kb_tabIn (tgt := 48) S (((hV.k hk).1).trans (congrArg nI c_6)) (by decide) dX13_leaks_6 (by decide) (by decide) rfl (by decide) ?_
    refine lv_iconst (v := 5) hx hb dX13_leaks_48 (by decide) ?_
    exact kk_iretR S hr hlk rfl rfl (by unfold p_leaks; rw [c_6]; rfl) dX13_leaks_49
set_option maxHeartbeats 4000000 in
set_option maxRecDepth 100000 in
theorem k_bears (l : Launch) (t : MT) (r : Rw) (x : Nat → Rw) (k : Nat) (b : Nat) (hk : k < 8) (hV : pV b r) : Met l yX13_bears (ws_ yX13_bears cX13_bears 3 (some .int)) (rmF 1) (va_Pc [.ref (t.2.1 0), .int (nI k)] (fun U => mK t U ∧ mW t r x U.heap)) (kR (some (.int (p_bears r k)))) 0 0 (fun _ => False) := by
  refine kk_start (by decide) (Nat.le_of_ble_eq_true rfl) ?_
  intro p e s m below meth c S hr hlk hin hB ls hl
  obtain ⟨hK, hP⟩ := hB
  have hx := S.1
  have hb := S.2.1
  have hown : s.vm.findClass RX13 = some m.cls := S.2.2.2.1
  have hts := S.2.2.2.2
  have hl : lv_has ls 3 [(0, .ref (t.2.1 0)), (1, .int ((nI k)))] := hl
  have hk7 := (hV.k hk).2
  have hc6 := (hV.c hk).2
  refine lv_iconst (v := 0) hx hb dX13_bears_0 (by decide) ?_
  refine lv_aload_n hx hb dX13_bears_1 rfl (lv_at hl 0 rfl) ?_
  refine lv_iload_n hx hb dX13_bears_2 rfl (lv_at hl 1 rfl) ?_
  refine lv_iconst (v := 4) hx hb dX13_bears_3 (by decide) ?_
  refine c_its S hK hP (rm_ok (Nat.le_of_ble_eq_true rfl)) hl.1 (k) (4) (by omega) (by omega) rfl rfl (Nat.le_of_ble_eq_true rfl) dX13_bears_4 ?_
  refine lv_iconst (v := 5) hx hb dX13_bears_7 (by decide) ?_
  refine lv_aload_n hx hb dX13_bears_8 rfl (lv_at hl 0 rfl) ?_
  refine mg_s S hK hP dX13_bears_9 ?_
  refine lv_iconst (v := 4) hx hb dX13_bears_12 (by decide) ?_
  refine lv_aload_n hx hb dX13_bears_13 rfl (lv_at hl 0 rfl) ?_
  refine lv_iload_n hx hb dX13_bears_14 rfl (lv_at hl 1 rfl) ?_
  refine lv_iconst (v := 1) hx hb dX13_bears_15 (by decide) ?_
  refine c_its S hK hP (rm_ok (Nat.le_of_ble_eq_true rfl)) hl.1 (k) (1) (by omega) (by omega) rfl rfl (Nat.le_of_ble_eq_true rfl) dX13_bears_16 ?_
  refine lv_iadd hx hb dX13_bears_19 ?_
  refine mk_lds S hK hP ((4 + (pC r k))) (by omega) (nn_add rfl (hV.c hk).1) dX13_bears_20 ?_
  refine lv_imul hx hb dX13_bears_21 ?_
  refine lv_isub hx hb dX13_bears_22 ?_
  refine c_greatest S (rm_ok (Nat.le_of_ble_eq_true rfl)) hl.1 (Nat.le_of_ble_eq_true rfl) dX13_bears_23 ?_
  refine lv_istore_n (lv' := [(2, .int (imax 0 (r (16 + 7 * k + 4) - (5 * r ((4 + (pC r k))))))), (0, .ref (t.2.1 0)), (1, .int ((nI k)))]) hx hb dX13_bears_26 rfl hl (by decide) rfl (fun ls hl => ?_)
  refine lv_aload_n hx hb dX13_bears_27 rfl (lv_at hl 1 rfl) ?_
  refine lv_iload_n hx hb dX13_bears_28 rfl (lv_at hl 2 rfl) ?_
  refine lv_iconst (v := 0) hx hb dX13_bears_29 (by decide) ?_
  refine c_its S hK hP (rm_ok (Nat.le_of_ble_eq_true rfl)) hl.1 (k) (0) (by omega) (by omega) rfl rfl (Nat.le_of_ble_eq_true rfl) dX13_bears_30 ?_
  rcases (show (pK r k) = 0 ∨ (pK r k) = 1 ∨ (pK r k) = 2 ∨ (pK r k) = 3 ∨ (pK r k) = 4 ∨ (pK r k) = 5 ∨ (pK r k) = 6 by omega) with c_33 | c_33 | c_33 | c_33 | c_33 | c_33 | c_33
  · skip
    refine kb_tabOut (tgt := 81) S (((hV.k hk).1).trans (congrArg nI c_33)) (by decide) dX13_bears_33 (by decide) (by decide) ?_
    refine lv_iload_n hx hb dX13_bears_81 rfl (lv_at hl 0 rfl) ?_
    exact kk_iretR S hr hlk rfl rfl (by unfold p_bears; rw [c_33]; rfl) dX13_bears_82
  · skip
    refine kb_tabIn (tgt := 72) S (((hV.k hk).1).trans (congrArg nI c_33)) (by decide) dX13_bears_33 (by decide) (by decide) rfl (by decide) ?_
    refine lv_iload_n hx hb dX13_bears_72 rfl (lv_at hl 0 rfl) ?_
    refine lv_iconst (v := 2) hx hb dX13_bears_73 (by decide) ?_
    refine lv_idiv hx hb dX13_bears_74 (by decide) ?_
    exact kk_iretR S hr hlk rfl rfl (by unfold p_bears; rw [c_33]; rfl) dX13_bears_75
  · skip
    refine kb_tabIn (tgt := 76) S (((hV.k hk).1).trans (congrArg nI c_33)) (by decide) dX13_bears_33 (by decide) (by decide) rfl (by decide) ?_
    refine lv_iload_n hx hb dX13_bears_76 rfl (lv_at hl 0 rfl) ?_
    refine lv_bipush (v := 10) hx hb dX13_bears_77 (by decide) ?_
    refine lv_iadd hx hb dX13_bears_79 ?_
    exact kk_iretR S hr hlk rfl rfl (by unfold p_bears; rw [c_33]; rfl) dX13_bears_80
  · skip
    refine kb_tabIn (tgt := 76) S (((hV.k hk).1).trans (congrArg nI c_33)) (by decide) dX13_bears_33 (by decide) (by decide) rfl (by decide) ?_
    refine lv_iload_n hx hb dX13_bears_76 rfl (lv_at hl 0 rfl) ?_
    refine lv_bipush (v := 10) hx hb dX13_bears_77 (by decide) ?_
    refine lv_iadd hx hb dX13_bears_79 ?_
    exact kk_iretR S hr hlk rfl rfl (by unfold p_bears; rw [c_33]; rfl) dX13_bears_80
  · skip
    refine kb_tabIn (tgt := 76) S (((hV.k hk).1).trans (congrArg nI c_33)) (by decide) dX13_bears_33 (by decide) (by decide) rfl (by decide) ?_
    refine lv_iload_n hx hb dX13_bears_76 rfl (lv_at hl 0 rfl) ?_
    refine lv_bipush (v := 10) hx hb dX13_bears_77 (by decide) ?_
    refine lv_iadd hx hb dX13_bears_79 ?_
    exact kk_iretR S hr hlk rfl rfl (by unfold p_bears; rw [c_33]; rfl) dX13_bears_80
  · skip
    refine kb_tabIn (tgt := 81) S (((hV.k hk).1).trans (congrArg nI c_33)) (by decide) dX13_bears_33 (by decide) (by decide) rfl (by decide) ?_
    refine lv_iload_n hx hb dX13_bears_81 rfl (lv_at hl 0 rfl) ?_
    exact kk_iretR S hr hlk rfl rfl (by unfold p_bears; rw [c_33]; rfl) dX13_bears_82
  · skip
    refine kb_tabIn (tgt := 72) S (((hV.k hk).1).trans (congrArg nI c_33)) (by decide) dX13_bears_33 (by decide) (by decide) rfl (by decide) ?_
    refine lv_iload_n hx hb dX13_bears_72 rfl (lv_at hl 0 rfl) ?_
    refine lv_iconst (v := 2) hx hb dX13_bears_73 (by decide) ?_
    refine lv_idiv hx hb dX13_bears_74 (by decide) ?_
    exact kk_iretR S hr hlk rfl rfl (by unfold p_bears; rw [c_33]; rfl) dX13_bears_75
set_option maxHeartbeats 4000000 in
set_option maxRecDepth 100000 in
theorem k_loud (l : Launch) (t : MT) (r : Rw) (x : Nat → Rw) (k : Nat) (b : Nat) (hk : k < 8) (hV : pV b r) : Met l yX13_loud (ws_ yX13_loud cX13_loud 5 (some .int)) (rmF 2) (va_Pc [.ref (t.2.1 0), .int (nI k)] (fun U => mK t U ∧ mW t r x U.heap)) (kR (some (.int (p_loud r k)))) 0 0 (fun _ => False) := by
  refine kk_start (by decide) (Nat.le_of_ble_eq_true rfl) ?_
  intro p e s m below meth c S hr hlk hin hB ls hl
  obtain ⟨hK, hP⟩ := hB
  have hx := S.1
  have hb := S.2.1
  have hown : s.vm.findClass RX13 = some m.cls := S.2.2.2.1
  have hts := S.2.2.2.2
  have hl : lv_has ls 5 [(0, .ref (t.2.1 0)), (1, .int ((nI k)))] := hl
  have hk7 := (hV.k hk).2
  have hc6 := (hV.c hk).2
  have hn8 := hV.n.2
  refine lv_aload_n hx hb dX13_loud_0 rfl (lv_at hl 0 rfl) ?_
  refine lv_iload_n hx hb dX13_loud_1 rfl (lv_at hl 1 rfl) ?_
  refine lv_iconst (v := 2) hx hb dX13_loud_2 (by decide) ?_
  refine c_its S hK hP (rm_ok (Nat.le_of_ble_eq_true rfl)) hl.1 (k) (2) (by omega) (by omega) rfl rfl (Nat.le_of_ble_eq_true rfl) dX13_loud_3 ?_
  refine lv_istore_n (lv' := [(2, .int (r (16 + 7 * k + 2))), (0, .ref (t.2.1 0)), (1, .int ((nI k)))]) hx hb dX13_loud_6 rfl hl (by decide) rfl (fun ls hl => ?_)
  refine lv_iconst (v := 0) hx hb dX13_loud_7 (by decide) ?_
  refine lv_iconst (v := 2) hx hb dX13_loud_8 (by decide) ?_
  refine lv_iload_n hx hb dX13_loud_9 rfl (lv_at hl 0 rfl) ?_
  refine lv_imul hx hb dX13_loud_10 ?_
  refine lv_aload_n hx hb dX13_loud_11 rfl (lv_at hl 1 rfl) ?_
  refine lv_iload_n hx hb dX13_loud_12 rfl (lv_at hl 2 rfl) ?_
  refine lv_iconst (v := 5) hx hb dX13_loud_13 (by decide) ?_
  refine c_its S hK hP (rm_ok (Nat.le_of_ble_eq_true rfl)) hl.1 (k) (5) (by omega) (by omega) rfl rfl (Nat.le_of_ble_eq_true rfl) dX13_loud_14 ?_
  refine lv_isub hx hb dX13_loud_17 ?_
  refine c_greatest S (rm_ok (Nat.le_of_ble_eq_true rfl)) hl.1 (Nat.le_of_ble_eq_true rfl) dX13_loud_18 ?_
  refine lv_istore_n (lv' := [(3, .int (imax 0 ((2 * r (16 + 7 * k + 2)) - r (16 + 7 * k + 5)))), (2, .int (r (16 + 7 * k + 2))), (0, .ref (t.2.1 0)), (1, .int ((nI k)))]) hx hb dX13_loud_21 rfl hl (by decide) rfl (fun ls hl => ?_)
  refine lv_iload_n hx hb dX13_loud_22 rfl (lv_at hl 1 rfl) ?_
  refine lv_iload_n hx hb dX13_loud_23 rfl (lv_at hl 1 rfl) ?_
  refine lv_iconst (v := 4) hx hb dX13_loud_24 (by decide) ?_
  refine lv_idiv hx hb dX13_loud_25 (by decide) ?_
  refine lv_isub hx hb dX13_loud_26 ?_
  refine lv_aload_n hx hb dX13_loud_27 rfl (lv_at hl 2 rfl) ?_
  refine lv_iload_n hx hb dX13_loud_28 rfl (lv_at hl 3 rfl) ?_
  refine lv_iconst (v := 5) hx hb dX13_loud_29 (by decide) ?_
  refine c_its S hK hP (rm_ok (Nat.le_of_ble_eq_true rfl)) hl.1 (k) (5) (by omega) (by omega) rfl rfl (Nat.le_of_ble_eq_true rfl) dX13_loud_30 ?_
  refine lv_iadd hx hb dX13_loud_33 ?_
  refine lv_istore (lv' := [(4, .int (((r (16 + 7 * k + 2) - (r (16 + 7 * k + 2) / 4)) + r (16 + 7 * k + 5)))), (3, .int (imax 0 ((2 * r (16 + 7 * k + 2)) - r (16 + 7 * k + 5)))), (2, .int (r (16 + 7 * k + 2))), (0, .ref (t.2.1 0)), (1, .int ((nI k)))]) hx hb dX13_loud_34 hl (by decide) rfl (fun ls hl => ?_)
  refine lv_aload_n hx hb dX13_loud_36 rfl (lv_at hl 3 rfl) ?_
  refine lv_iload_n hx hb dX13_loud_37 rfl (lv_at hl 4 rfl) ?_
  refine lv_iconst (v := 0) hx hb dX13_loud_38 (by decide) ?_
  refine c_its S hK hP (rm_ok (Nat.le_of_ble_eq_true rfl)) hl.1 (k) (0) (by omega) (by omega) rfl rfl (Nat.le_of_ble_eq_true rfl) dX13_loud_39 ?_
  rcases (show (pK r k) = 0 ∨ (pK r k) = 1 ∨ (pK r k) = 2 ∨ (pK r k) = 3 ∨ (pK r k) = 4 ∨ (pK r k) = 5 ∨ (pK r k) = 6 by omega) with c_42 | c_42 | c_42 | c_42 | c_42 | c_42 | c_42
  · skip
    refine kb_tabOut (tgt := 132) S (((hV.k hk).1).trans (congrArg nI c_42)) (by decide) dX13_loud_42 (by decide) (by decide) ?_
    refine lv_iload_n hx hb dX13_loud_132 rfl (lv_at hl 2 rfl) ?_
    exact kk_iretR S hr hlk rfl rfl (by unfold p_loud; rw [c_42]; rfl) dX13_loud_133
  · skip
    refine kb_tabIn (tgt := 80) S (((hV.k hk).1).trans (congrArg nI c_42)) (by decide) dX13_loud_42 (by decide) (by decide) rfl (by decide) ?_
    refine lv_iload_n hx hb dX13_loud_80 rfl (lv_at hl 1 rfl) ?_
    exact kk_iretR S hr hlk rfl rfl (by unfold p_loud; rw [c_42]; rfl) dX13_loud_81
  · skip
    refine kb_tabIn (tgt := 82) S (((hV.k hk).1).trans (congrArg nI c_42)) (by decide) dX13_loud_42 (by decide) (by decide) rfl (by decide) ?_
    refine lv_iload hx hb dX13_loud_82 (lv_at hl 0 rfl) ?_
    exact kk_iretR S hr hlk rfl rfl (by unfold p_loud; rw [c_42]; rfl) dX13_loud_84
  · skip
    refine kb_tabIn (tgt := 85) S (((hV.k hk).1).trans (congrArg nI c_42)) (by decide) dX13_loud_42 (by decide) (by decide) rfl (by decide) ?_
    refine lv_iload hx hb dX13_loud_85 (lv_at hl 0 rfl) ?_
    refine lv_iconst (v := 2) hx hb dX13_loud_87 (by decide) ?_
    refine lv_idiv hx hb dX13_loud_88 (by decide) ?_
    exact kk_iretR S hr hlk rfl rfl (by unfold p_loud; rw [c_42]; rfl) dX13_loud_89
  · skip
    refine kb_tabIn (tgt := 90) S (((hV.k hk).1).trans (congrArg nI c_42)) (by decide) dX13_loud_42 (by decide) (by decide) rfl (by decide) ?_
    refine lv_iload hx hb dX13_loud_90 (lv_at hl 0 rfl) ?_
    refine lv_iconst (v := 2) hx hb dX13_loud_92 (by decide) ?_
    refine lv_idiv hx hb dX13_loud_93 (by decide) ?_
    refine lv_iconst (v := 5) hx hb dX13_loud_94 (by decide) ?_
    refine lv_aload_n hx hb dX13_loud_95 rfl (lv_at hl 3 rfl) ?_
    refine lv_aload_n hx hb dX13_loud_96 rfl (lv_at hl 3 rfl) ?_
    refine lv_iload_n hx hb dX13_loud_97 rfl (lv_at hl 4 rfl) ?_
    refine lv_iconst (v := 1) hx hb dX13_loud_98 (by decide) ?_
    refine c_its S hK hP (rm_ok (Nat.le_of_ble_eq_true rfl)) hl.1 (k) (1) (by omega) (by omega) rfl rfl (Nat.le_of_ble_eq_true rfl) dX13_loud_99 ?_
    refine c_there S hK hP (rm_ok (Nat.le_of_ble_eq_true rfl)) hl.1 (b) hV (Nat.le_of_ble_eq_true rfl) dX13_loud_102 ?_
    refine c_many S (rm_ok (Nat.le_of_ble_eq_true rfl)) hl.1 ((p_there r (r (16 + 7 * k + 1)))) (Nat.lt_trans (p_there_lt hV _) (by decide)) rfl (Nat.le_of_ble_eq_true rfl) dX13_loud_105 ?_
    refine lv_iconst (v := 1) hx hb dX13_loud_108 (by decide) ?_
    refine lv_isub hx hb dX13_loud_109 ?_
    refine lv_imul hx hb dX13_loud_110 ?_
    refine lv_iadd hx hb dX13_loud_111 ?_
    exact kk_iretR S hr hlk rfl rfl (by unfold p_loud; rw [c_42]; rfl) dX13_loud_112
  · skip
    refine kb_tabIn (tgt := 113) S (((hV.k hk).1).trans (congrArg nI c_42)) (by decide) dX13_loud_42 (by decide) (by decide) rfl (by decide) ?_
    refine lv_iconst (v := 0) hx hb dX13_loud_113 (by decide) ?_
    exact kk_iretR S hr hlk rfl rfl (by unfold p_loud; rw [c_42]; rfl) dX13_loud_114
  · skip
    refine kb_tabIn (tgt := 115) S (((hV.k hk).1).trans (congrArg nI c_42)) (by decide) dX13_loud_42 (by decide) (by decide) rfl (by decide) ?_
    refine lv_aload_n hx hb dX13_loud_115 rfl (lv_at hl 3 rfl) ?_
    refine lv_iload_n hx hb dX13_loud_116 rfl (lv_at hl 4 rfl) ?_
    refine lv_iconst (v := 5) hx hb dX13_loud_117 (by decide) ?_
    refine c_its S hK hP (rm_ok (Nat.le_of_ble_eq_true rfl)) hl.1 (k) (5) (by omega) (by omega) rfl rfl (Nat.le_of_ble_eq_true rfl) dX13_loud_118 ?_
    refine lv_bipush (v := 10) hx hb dX13_loud_121 (by decide) ?_
    refine lv_icmp_lt (tgt := 130) hx hb dX13_loud_123 (by decide) (fun c_123 => ?_) (fun c_123 => ?_)
    · skip
      refine lv_iload_n hx hb dX13_loud_130 rfl (lv_at hl 1 rfl) ?_
      exact kk_iretR S hr hlk rfl rfl (by unfold p_loud; rw [c_42]; first | exact (if_pos (Int32.not_lt.mp c_123)).symm | exact (if_neg (Int32.not_le.mpr c_123)).symm) dX13_loud_131
    · skip
      refine lv_iconst (v := 0) hx hb dX13_loud_126 (by decide) ?_
      refine lv_goto (tgt := 131) hx hb dX13_loud_127 (by decide) ?_
      exact kk_iretR S hr hlk rfl rfl (by unfold p_loud; rw [c_42]; first | exact (if_pos (Int32.not_lt.mp c_123)).symm | exact (if_neg (Int32.not_le.mpr c_123)).symm) dX13_loud_131
set_option maxHeartbeats 4000000 in
set_option maxRecDepth 100000 in
theorem k_greatestOf (l : Launch) (w : Int32) : Met l yX13_greatestOf (ws_ yX13_greatestOf cX13_greatestOf 1 (some .int)) (rmF 0) (va_Pc [.int w] (fun _ => True)) (kR (some (.int (p_great w)))) 0 0 (fun _ => False) := by
  refine kk_start (by decide) (Nat.le_of_ble_eq_true rfl) ?_
  intro p e s m below meth c S hr hlk hin hB ls hl
  have hx := S.1
  have hb := S.2.1
  have hown : s.vm.findClass RX13 = some m.cls := S.2.2.2.1
  have hts := S.2.2.2.2
  have hl : lv_has ls 1 [(0, .int (w))] := hl
  refine lv_iload_n hx hb dX13_greatestOf_0 rfl (lv_at hl 0 rfl) ?_
  refine lv_if_ne (tgt := 9) hx hb dX13_greatestOf_1 (by decide) (fun c_1 => ?_) (fun c_1 => ?_)
  · skip
    refine lv_iload_n hx hb dX13_greatestOf_9 rfl (lv_at hl 0 rfl) ?_
    refine lv_iconst (v := 1) hx hb dX13_greatestOf_10 (by decide) ?_
    refine lv_icmp_ne (tgt := 18) hx hb dX13_greatestOf_11 (by decide) (fun c_11 => ?_) (fun c_11 => ?_)
    · skip
      refine lv_iload_n hx hb dX13_greatestOf_18 rfl (lv_at hl 0 rfl) ?_
      refine lv_iconst (v := 3) hx hb dX13_greatestOf_19 (by decide) ?_
      refine lv_icmp_ne (tgt := 28) hx hb dX13_greatestOf_20 (by decide) (fun c_20 => ?_) (fun c_20 => ?_)
      · skip
        refine lv_sipush (v := 999) hx hb dX13_greatestOf_28 (by decide) ?_
        exact kk_iretR S hr hlk rfl rfl (by unfold p_great; grind) dX13_greatestOf_31
      · skip
        refine lv_bipush (v := 11) hx hb dX13_greatestOf_23 (by decide) ?_
        refine lv_goto (tgt := 31) hx hb dX13_greatestOf_25 (by decide) ?_
        exact kk_iretR S hr hlk rfl rfl (by unfold p_great; grind) dX13_greatestOf_31
    · skip
      refine lv_iconst (v := 5) hx hb dX13_greatestOf_14 (by decide) ?_
      refine lv_goto (tgt := 31) hx hb dX13_greatestOf_15 (by decide) ?_
      exact kk_iretR S hr hlk rfl rfl (by unfold p_great; grind) dX13_greatestOf_31
  · skip
    refine lv_bipush (v := 6) hx hb dX13_greatestOf_4 (by decide) ?_
    refine lv_goto (tgt := 31) hx hb dX13_greatestOf_6 (by decide) ?_
    exact kk_iretR S hr hlk rfl rfl (by unfold p_great; grind) dX13_greatestOf_31
section MC
variable {p : Program} {l : Launch} {e : Env} {R : Room} {s : State} {m : MethodId} {args : Array Value} {below : List Frame} {meth : Method} {c : Code} {H H0 : Heap} {locs : List Loc} {cells slots : Nat} {Q : State → Prop}
variable {cc : ByteArray} {pc nL : Nat} {ls : Array Slot} {rest : List Value} {t : MT} {r : Rw} {x : Nat → Rw}

theorem c_leaks (S : CallFix p m c cc nL s args lw_all RX13) (hK : mK t s) (hP : mW t r x H) (hR : kRm R 2 cells slots) (hsz : ls.size = nL) (k : Nat) (b : Nat) (hk : k < 8) (hV : pV b r) {i0 : Int32} (e0 : i0 = nI k) (hrest : (rest.map fun v => v.category).sum ≤ 8) (hdg : decode cc pc = .ok (.invokevirtual 92, 3)) (kk : W p l e R s m args below meth c H locs cells slots Q (F0 m (pc + 3) ls (.int (p_leaks r k) :: rest))) : W p l e R s m args below meth c H locs cells slots Q (F0 m pc ls (.int i0 :: .ref (t.2.1 0) :: rest)) := by
  subst e0
  exact kk_Ri (W.runV (As := [.int (nI k)]) (rest := rest) S (k_leaks l t r x k b hk hV) (cwV 1 S.2.2.2.2 (lw_V q1363 q1365 qs63 q117 q1366) rfl rfl rfl (by decide +kernel) ⟨hR.1, by have := hR.2.1; show 8 + (2 + 11) + 38 * 1 ≤ R.locals; omega⟩) ⟨m_blind, m_recv hK hP, m_pre hK hP⟩ rfl rfl hsz rfl (lv_room hrest) hdg ⟨hR.2.2.1, hR.2.2.2⟩) kk
theorem c_bears (S : CallFix p m c cc nL s args lw_all RX13) (hK : mK t s) (hP : mW t r x H) (hR : kRm R 2 cells slots) (hsz : ls.size = nL) (k : Nat) (b : Nat) (hk : k < 8) (hV : pV b r) {i0 : Int32} (e0 : i0 = nI k) (hrest : (rest.map fun v => v.category).sum ≤ 8) (hdg : decode cc pc = .ok (.invokevirtual 95, 3)) (kk : W p l e R s m args below meth c H locs cells slots Q (F0 m (pc + 3) ls (.int (p_bears r k) :: rest))) : W p l e R s m args below meth c H locs cells slots Q (F0 m pc ls (.int i0 :: .ref (t.2.1 0) :: rest)) := by
  subst e0
  exact kk_Ri (W.runV (As := [.int (nI k)]) (rest := rest) S (k_bears l t r x k b hk hV) (cwV 1 S.2.2.2.2 (lw_V q1367 q1369 qs64 q117 q1370) rfl rfl rfl (by decide +kernel) ⟨hR.1, by have := hR.2.1; show 8 + (3 + 11) + 38 * 1 ≤ R.locals; omega⟩) ⟨m_blind, m_recv hK hP, m_pre hK hP⟩ rfl rfl hsz rfl (lv_room hrest) hdg ⟨hR.2.2.1, hR.2.2.2⟩) kk
theorem c_loud (S : CallFix p m c cc nL s args lw_all RX13) (hK : mK t s) (hP : mW t r x H) (hR : kRm R 3 cells slots) (hsz : ls.size = nL) (k : Nat) (b : Nat) (hk : k < 8) (hV : pV b r) {i0 : Int32} (e0 : i0 = nI k) (hrest : (rest.map fun v => v.category).sum ≤ 8) (hdg : decode cc pc = .ok (.invokevirtual 89, 3)) (kk : W p l e R s m args below meth c H locs cells slots Q (F0 m (pc + 3) ls (.int (p_loud r k) :: rest))) : W p l e R s m args below meth c H locs cells slots Q (F0 m pc ls (.int i0 :: .ref (t.2.1 0) :: rest)) := by
  subst e0
  exact kk_Ri (W.runV (As := [.int (nI k)]) (rest := rest) S (k_loud l t r x k b hk hV) (cwV 1 S.2.2.2.2 (lw_V q1353 q1355 qs62 q117 q1356) rfl rfl rfl (by decide +kernel) ⟨hR.1, by have := hR.2.1; show 8 + (5 + 11) + 38 * 2 ≤ R.locals; omega⟩) ⟨m_blind, m_recv hK hP, m_pre hK hP⟩ rfl rfl hsz rfl (lv_room hrest) hdg ⟨hR.2.2.1, hR.2.2.2⟩) kk
theorem c_greatestOf (S : CallFix p m c cc nL s args lw_all RX13) (hR : kRm R 1 cells slots) (hsz : ls.size = nL) {w : Int32} (hrest : (rest.map fun v => v.category).sum ≤ 8) (hdg : decode cc pc = .ok (.invokestatic 98, 3)) (kk : W p l e R s m args below meth c H locs cells slots Q (F0 m (pc + 3) ls (.int (p_great w) :: rest))) : W p l e R s m args below meth c H locs cells slots Q (F0 m pc ls (.int w :: rest)) := by
  exact kk_Ri (W.runS (As := [.int w]) (rest := rest) S (k_greatestOf l w) (va_cwS 1 S.2.2.2.2 (lw_S q1375 q1376 q117 q1377) rfl rfl rfl (by decide +kernel) ⟨hR.1, by have := hR.2.1; show 8 + (1 + 11) + 38 * 0 ≤ R.locals; omega⟩) ⟨kk_blindT, fun U hU hW => ⟨rfl, trivial⟩⟩ rfl rfl hsz rfl (lv_room hrest) hdg ⟨hR.2.2.1, hR.2.2.2⟩) kk
end MC
set_option maxHeartbeats 4000000 in
set_option maxRecDepth 100000 in
theorem k_of (l : Launch) (t : MT) (r : Rw) (x : Nat → Rw) (a : Int32) (w : Int32) (b : Nat) (hV : pV b r) : Met l yX13_of (ws_ yX13_of cX13_of 3 (some .int)) (rmF 3) (va_Pc [.ref (t.2.1 0), .int a, .int w] (fun U => mK t U ∧ mW t r x U.heap)) (kW (some (.int ((o_of r a w).1))) (mW t ((o_of r a w).2.1) (fx x (o_of r a w).2.2)) (mA t)) 0 0 (mA t) := by
  refine kk_start (by decide) (Nat.le_of_ble_eq_true rfl) ?_
  intro p e s m below meth c S hr hlk hin hB ls hl
  obtain ⟨hK, hP⟩ := hB
  have hx := S.1
  have hb := S.2.1
  have hown : s.vm.findClass RX13 = some m.cls := S.2.2.2.1
  have hts := S.2.2.2.2
  have hS : va_S (mA t) s.heap s.heap [] := va_S.rf
  have hl : lv_has ls 3 [(0, .ref (t.2.1 0)), (1, .int (a)), (2, .int (w))] := hl
  have hn := hV.n.1
  have hn8 := hV.n.2
  refine lv_aload_n hx hb dX13_of_0 rfl (lv_at hl 0 rfl) ?_
  refine lv_iload_n hx hb dX13_of_1 rfl (lv_at hl 1 rfl) ?_
  refine c_isCask S hK hP (rm_ok (Nat.le_of_ble_eq_true rfl)) hl.1 (Nat.le_of_ble_eq_true rfl) dX13_of_2 ?_
  refine kb_ifeq (tgt := 20) S dX13_of_5 (by decide) (fun c_5 => ?_) (fun c_5 => ?_)
  · skip
    refine lv_aload_n hx hb dX13_of_20 rfl (lv_at hl 0 rfl) ?_
    refine lv_ldc (v := (-1000001)) hx hb hown (hts _ q1305) dX13_of_21 ?_
    refine c_finds S hK hP hS (rm_ok (Nat.le_of_ble_eq_true rfl)) hl.1 (0) (by decide) (by decide) (Nat.le_of_ble_eq_true rfl) dX13_of_23 (fun H locs hP hS => ?_)
    exact kk_iretW S hr hlk hS (by simp only [o_of, c_5, reduceIte, and_self, oF, oK, fx]; exact hP) (by simp only [o_of, c_5, reduceIte, and_self, oF, oK, fnd] <;> first | rfl | decide) dX13_of_26
  · skip
    refine lv_iload_n hx hb dX13_of_8 rfl (lv_at hl 2 rfl) ?_
    refine lv_i2l hx hb dX13_of_9 rfl ?_
    refine lv_lconst (v := (0 : Int32).toInt64) hx hb dX13_of_10 (by decide) ?_
    refine lv_ldc2 (v := ((9) : Int32).toInt64) hx hb hown (hts _ q1297) dX13_of_11 ?_
    refine c_isIn S (rm_ok (Nat.le_of_ble_eq_true rfl)) hl.1 (Nat.le_of_ble_eq_true rfl) dX13_of_14 ?_
    refine kb_ifne (tgt := 27) S dX13_of_17 (by decide) (fun c_17 => ?_) (fun c_17 => ?_)
    · skip
      obtain ⟨a_, ha_, rfl⟩ := nat_of_lt (n := pN r) (hn) (by omega) c_5
      have hcl_a_ := nI_clamp (n := a_) (by omega)
      obtain ⟨w_, hw_, rfl⟩ := nat_of_le (n := 9) (rfl) (by omega) c_17
      have hcl_w_ := nI_clamp (n := w_) (by omega)
      refine lv_iload_n hx hb dX13_of_27 rfl (lv_at hl 2 rfl) ?_
      rcases (show w_ = 0 ∨ w_ = 1 ∨ w_ = 2 ∨ w_ = 3 ∨ w_ = 4 ∨ w_ = 5 ∨ w_ = 6 ∨ w_ = 7 ∨ w_ = 8 ∨ w_ = 9 by omega) with c_28 | c_28 | c_28 | c_28 | c_28 | c_28 | c_28 | c_28 | c_28 | c_28
      · skip
        refine kb_tabOut (tgt := 74) S ((rfl).trans (congrArg nI c_28)) (by decide) dX13_of_28 (by decide) (by decide) ?_
        subst c_28
        refine lv_aload_n hx hb dX13_of_74 rfl (lv_at hl 0 rfl) ?_
        refine lv_iload_n hx hb dX13_of_75 rfl (lv_at hl 1 rfl) ?_
        refine lv_iload_n hx hb dX13_of_76 rfl (lv_at hl 2 rfl) ?_
        refine c_its S hK hP (rm_ok (Nat.le_of_ble_eq_true rfl)) hl.1 (a_) (0) (by omega) (by omega) rfl rfl (Nat.le_of_ble_eq_true rfl) dX13_of_77 ?_
        exact kk_iretW S hr hlk hS (by simp only [o_of, c_5, c_17, hcl_a_, hcl_w_, reduceIte, and_self, oF, oK, fx]; exact hP) (by simp only [o_of, c_5, c_17, hcl_a_, hcl_w_, reduceIte, and_self, oF, oK, fnd] <;> first | rfl | decide) dX13_of_80
      · skip
        refine kb_tabOut (tgt := 74) S ((rfl).trans (congrArg nI c_28)) (by decide) dX13_of_28 (by decide) (by decide) ?_
        subst c_28
        refine lv_aload_n hx hb dX13_of_74 rfl (lv_at hl 0 rfl) ?_
        refine lv_iload_n hx hb dX13_of_75 rfl (lv_at hl 1 rfl) ?_
        refine lv_iload_n hx hb dX13_of_76 rfl (lv_at hl 2 rfl) ?_
        refine c_its S hK hP (rm_ok (Nat.le_of_ble_eq_true rfl)) hl.1 (a_) (1) (by omega) (by omega) rfl rfl (Nat.le_of_ble_eq_true rfl) dX13_of_77 ?_
        exact kk_iretW S hr hlk hS (by simp only [o_of, c_5, c_17, hcl_a_, hcl_w_, reduceIte, and_self, oF, oK, fx]; exact hP) (by simp only [o_of, c_5, c_17, hcl_a_, hcl_w_, reduceIte, and_self, oF, oK, fnd] <;> first | rfl | decide) dX13_of_80
      · skip
        refine kb_tabOut (tgt := 74) S ((rfl).trans (congrArg nI c_28)) (by decide) dX13_of_28 (by decide) (by decide) ?_
        subst c_28
        refine lv_aload_n hx hb dX13_of_74 rfl (lv_at hl 0 rfl) ?_
        refine lv_iload_n hx hb dX13_of_75 rfl (lv_at hl 1 rfl) ?_
        refine lv_iload_n hx hb dX13_of_76 rfl (lv_at hl 2 rfl) ?_
        refine c_its S hK hP (rm_ok (Nat.le_of_ble_eq_true rfl)) hl.1 (a_) (2) (by omega) (by omega) rfl rfl (Nat.le_of_ble_eq_true rfl) dX13_of_77 ?_
        exact kk_iretW S hr hlk hS (by simp only [o_of, c_5, c_17, hcl_a_, hcl_w_, reduceIte, and_self, oF, oK, fx]; exact hP) (by simp only [o_of, c_5, c_17, hcl_a_, hcl_w_, reduceIte, and_self, oF, oK, fnd] <;> first | rfl | decide) dX13_of_80
      · skip
        refine kb_tabOut (tgt := 74) S ((rfl).trans (congrArg nI c_28)) (by decide) dX13_of_28 (by decide) (by decide) ?_
        subst c_28
        refine lv_aload_n hx hb dX13_of_74 rfl (lv_at hl 0 rfl) ?_
        refine lv_iload_n hx hb dX13_of_75 rfl (lv_at hl 1 rfl) ?_
        refine lv_iload_n hx hb dX13_of_76 rfl (lv_at hl 2 rfl) ?_
        refine c_its S hK hP (rm_ok (Nat.le_of_ble_eq_true rfl)) hl.1 (a_) (3) (by omega) (by omega) rfl rfl (Nat.le_of_ble_eq_true rfl) dX13_of_77 ?_
        exact kk_iretW S hr hlk hS (by simp only [o_of, c_5, c_17, hcl_a_, hcl_w_, reduceIte, and_self, oF, oK, fx]; exact hP) (by simp only [o_of, c_5, c_17, hcl_a_, hcl_w_, reduceIte, and_self, oF, oK, fnd] <;> first | rfl | decide) dX13_of_80
      · skip
        refine kb_tabOut (tgt := 74) S ((rfl).trans (congrArg nI c_28)) (by decide) dX13_of_28 (by decide) (by decide) ?_
        subst c_28
        refine lv_aload_n hx hb dX13_of_74 rfl (lv_at hl 0 rfl) ?_
        refine lv_iload_n hx hb dX13_of_75 rfl (lv_at hl 1 rfl) ?_
        refine lv_iload_n hx hb dX13_of_76 rfl (lv_at hl 2 rfl) ?_
        refine c_its S hK hP (rm_ok (Nat.le_of_ble_eq_true rfl)) hl.1 (a_) (4) (by omega) (by omega) rfl rfl (Nat.le_of_ble_eq_true rfl) dX13_of_77 ?_
        exact kk_iretW S hr hlk hS (by simp only [o_of, c_5, c_17, hcl_a_, hcl_w_, reduceIte, and_self, oF, oK, fx]; exact hP) (by simp only [o_of, c_5, c_17, hcl_a_, hcl_w_, reduceIte, and_self, oF, oK, fnd] <;> first | rfl | decide) dX13_of_80
      · skip
        refine kb_tabOut (tgt := 74) S ((rfl).trans (congrArg nI c_28)) (by decide) dX13_of_28 (by decide) (by decide) ?_
        subst c_28
        refine lv_aload_n hx hb dX13_of_74 rfl (lv_at hl 0 rfl) ?_
        refine lv_iload_n hx hb dX13_of_75 rfl (lv_at hl 1 rfl) ?_
        refine lv_iload_n hx hb dX13_of_76 rfl (lv_at hl 2 rfl) ?_
        refine c_its S hK hP (rm_ok (Nat.le_of_ble_eq_true rfl)) hl.1 (a_) (5) (by omega) (by omega) rfl rfl (Nat.le_of_ble_eq_true rfl) dX13_of_77 ?_
        exact kk_iretW S hr hlk hS (by simp only [o_of, c_5, c_17, hcl_a_, hcl_w_, reduceIte, and_self, oF, oK, fx]; exact hP) (by simp only [o_of, c_5, c_17, hcl_a_, hcl_w_, reduceIte, and_self, oF, oK, fnd] <;> first | rfl | decide) dX13_of_80
      · skip
        refine kb_tabOut (tgt := 74) S ((rfl).trans (congrArg nI c_28)) (by decide) dX13_of_28 (by decide) (by decide) ?_
        subst c_28
        refine lv_aload_n hx hb dX13_of_74 rfl (lv_at hl 0 rfl) ?_
        refine lv_iload_n hx hb dX13_of_75 rfl (lv_at hl 1 rfl) ?_
        refine lv_iload_n hx hb dX13_of_76 rfl (lv_at hl 2 rfl) ?_
        refine c_its S hK hP (rm_ok (Nat.le_of_ble_eq_true rfl)) hl.1 (a_) (6) (by omega) (by omega) rfl rfl (Nat.le_of_ble_eq_true rfl) dX13_of_77 ?_
        exact kk_iretW S hr hlk hS (by simp only [o_of, c_5, c_17, hcl_a_, hcl_w_, reduceIte, and_self, oF, oK, fx]; exact hP) (by simp only [o_of, c_5, c_17, hcl_a_, hcl_w_, reduceIte, and_self, oF, oK, fnd] <;> first | rfl | decide) dX13_of_80
      · skip
        refine kb_tabIn (tgt := 56) S ((rfl).trans (congrArg nI c_28)) (by decide) dX13_of_28 (by decide) (by decide) rfl (by decide) ?_
        subst c_28
        refine lv_aload_n hx hb dX13_of_56 rfl (lv_at hl 0 rfl) ?_
        refine lv_iload_n hx hb dX13_of_57 rfl (lv_at hl 1 rfl) ?_
        refine c_loud S hK hP (rm_ok (Nat.le_of_ble_eq_true rfl)) hl.1 (a_) (b) (by omega) hV rfl (Nat.le_of_ble_eq_true rfl) dX13_of_58 ?_
        exact kk_iretW S hr hlk hS (by simp only [o_of, c_5, c_17, hcl_a_, hcl_w_, reduceIte, and_self, oF, oK, fx]; exact hP) (by simp only [o_of, c_5, c_17, hcl_a_, hcl_w_, reduceIte, and_self, oF, oK, fnd] <;> first | rfl | decide) dX13_of_61
      · skip
        refine kb_tabIn (tgt := 62) S ((rfl).trans (congrArg nI c_28)) (by decide) dX13_of_28 (by decide) (by decide) rfl (by decide) ?_
        subst c_28
        refine lv_aload_n hx hb dX13_of_62 rfl (lv_at hl 0 rfl) ?_
        refine lv_iload_n hx hb dX13_of_63 rfl (lv_at hl 1 rfl) ?_
        refine c_leaks S hK hP (rm_ok (Nat.le_of_ble_eq_true rfl)) hl.1 (a_) (b) (by omega) hV rfl (Nat.le_of_ble_eq_true rfl) dX13_of_64 ?_
        exact kk_iretW S hr hlk hS (by simp only [o_of, c_5, c_17, hcl_a_, hcl_w_, reduceIte, and_self, oF, oK, fx]; exact hP) (by simp only [o_of, c_5, c_17, hcl_a_, hcl_w_, reduceIte, and_self, oF, oK, fnd] <;> first | rfl | decide) dX13_of_67
      · skip
        refine kb_tabIn (tgt := 68) S ((rfl).trans (congrArg nI c_28)) (by decide) dX13_of_28 (by decide) (by decide) rfl (by decide) ?_
        subst c_28
        refine lv_aload_n hx hb dX13_of_68 rfl (lv_at hl 0 rfl) ?_
        refine lv_iload_n hx hb dX13_of_69 rfl (lv_at hl 1 rfl) ?_
        refine c_bears S hK hP (rm_ok (Nat.le_of_ble_eq_true rfl)) hl.1 (a_) (b) (by omega) hV rfl (Nat.le_of_ble_eq_true rfl) dX13_of_70 ?_
        exact kk_iretW S hr hlk hS (by simp only [o_of, c_5, c_17, hcl_a_, hcl_w_, reduceIte, and_self, oF, oK, fx]; exact hP) (by simp only [o_of, c_5, c_17, hcl_a_, hcl_w_, reduceIte, and_self, oF, oK, fnd] <;> first | rfl | decide) dX13_of_73
    · skip
      refine lv_aload_n hx hb dX13_of_20 rfl (lv_at hl 0 rfl) ?_
      refine lv_ldc (v := (-1000001)) hx hb hown (hts _ q1305) dX13_of_21 ?_
      refine c_finds S hK hP hS (rm_ok (Nat.le_of_ble_eq_true rfl)) hl.1 (0) (by decide) (by decide) (Nat.le_of_ble_eq_true rfl) dX13_of_23 (fun H locs hP hS => ?_)
      exact kk_iretW S hr hlk hS (by simp only [o_of, c_5, c_17, reduceIte, and_self, oF, oK, fx]; exact hP) (by simp only [o_of, c_5, c_17, reduceIte, and_self, oF, oK, fnd] <;> first | rfl | decide) dX13_of_26
set_option maxHeartbeats 4000000 in
set_option maxRecDepth 100000 in
theorem k_change (l : Launch) (t : MT) (r : Rw) (x : Nat → Rw) (a : Int32) (w : Int32) (v : Int32) (b : Nat) (hV : pV b r) : Met l yX13_change (ws_ yX13_change cX13_change 5 (some .int)) (rmF 1) (va_Pc [.ref (t.2.1 0), .int a, .int w, .int v] (fun U => mK t U ∧ mW t r x U.heap)) (kW (some (.int ((o_change r a w v).1))) (mW t ((o_change r a w v).2.1) (fx x (o_change r a w v).2.2)) (mA t)) 0 0 (mA t) := by
  refine kk_start (by decide) (Nat.le_of_ble_eq_true rfl) ?_
  intro p e s m below meth c S hr hlk hin hB ls hl
  obtain ⟨hK, hP⟩ := hB
  have hx := S.1
  have hb := S.2.1
  have hown : s.vm.findClass RX13 = some m.cls := S.2.2.2.1
  have hts := S.2.2.2.2
  have hS : va_S (mA t) s.heap s.heap [] := va_S.rf
  have hl : lv_has ls 5 [(0, .ref (t.2.1 0)), (1, .int (a)), (2, .int (w)), (3, .int (v))] := hl
  have hn := hV.n.1
  have hn8 := hV.n.2
  refine lv_aload_n hx hb dX13_change_0 rfl (lv_at hl 0 rfl) ?_
  refine lv_iload_n hx hb dX13_change_1 rfl (lv_at hl 1 rfl) ?_
  refine c_isCask S hK hP (rm_ok (Nat.le_of_ble_eq_true rfl)) hl.1 (Nat.le_of_ble_eq_true rfl) dX13_change_2 ?_
  refine kb_ifeq (tgt := 38) S dX13_change_5 (by decide) (fun c_5 => ?_) (fun c_5 => ?_)
  · skip
    refine lv_iconst (v := 0) hx hb dX13_change_38 (by decide) ?_
    refine lv_istore (lv' := [(4, .int (0)), (0, .ref (t.2.1 0)), (1, .int (a)), (2, .int (w)), (3, .int (v))]) hx hb dX13_change_39 hl (by decide) rfl (fun ls hl => ?_)
    refine lv_iload hx hb dX13_change_41 (lv_at hl 0 rfl) ?_
    refine kb_eq0_n (tgt := 59) (a := 0) S rfl (by omega) dX13_change_43 (by decide) (fun c_43 => ?_) (fun c_43 => ?_)
    · skip
      refine lv_aload_n hx hb dX13_change_59 rfl (lv_at hl 1 rfl) ?_
      refine lv_ldc (v := (-1000001)) hx hb hown (hts _ q1305) dX13_change_60 ?_
      refine c_finds S hK hP hS (rm_ok (Nat.le_of_ble_eq_true rfl)) hl.1 (0) (by decide) (by decide) (Nat.le_of_ble_eq_true rfl) dX13_change_62 (fun H locs hP hS => ?_)
      exact kk_iretW S hr hlk hS (by simp only [o_change, c_5, c_43, reduceIte, and_self, oF, oK, fx]; exact hP) (by simp only [o_change, c_5, c_43, reduceIte, and_self, oF, oK, fnd] <;> first | rfl | decide) dX13_change_65
    · exact absurd c_43 (by first | decide | omega)
  · skip
    refine lv_iload_n hx hb dX13_change_8 rfl (lv_at hl 2 rfl) ?_
    refine lv_i2l hx hb dX13_change_9 rfl ?_
    refine lv_lconst (v := (0 : Int32).toInt64) hx hb dX13_change_10 (by decide) ?_
    refine lv_ldc2 (v := ((6) : Int32).toInt64) hx hb hown (hts _ q1336) dX13_change_11 ?_
    refine c_isIn S (rm_ok (Nat.le_of_ble_eq_true rfl)) hl.1 (Nat.le_of_ble_eq_true rfl) dX13_change_14 ?_
    refine kb_ifeq (tgt := 38) S dX13_change_17 (by decide) (fun c_17 => ?_) (fun c_17 => ?_)
    · skip
      refine lv_iconst (v := 0) hx hb dX13_change_38 (by decide) ?_
      refine lv_istore (lv' := [(4, .int (0)), (0, .ref (t.2.1 0)), (1, .int (a)), (2, .int (w)), (3, .int (v))]) hx hb dX13_change_39 hl (by decide) rfl (fun ls hl => ?_)
      refine lv_iload hx hb dX13_change_41 (lv_at hl 0 rfl) ?_
      refine kb_eq0_n (tgt := 59) (a := 0) S rfl (by omega) dX13_change_43 (by decide) (fun c_43 => ?_) (fun c_43 => ?_)
      · skip
        refine lv_aload_n hx hb dX13_change_59 rfl (lv_at hl 1 rfl) ?_
        refine lv_ldc (v := (-1000001)) hx hb hown (hts _ q1305) dX13_change_60 ?_
        refine c_finds S hK hP hS (rm_ok (Nat.le_of_ble_eq_true rfl)) hl.1 (0) (by decide) (by decide) (Nat.le_of_ble_eq_true rfl) dX13_change_62 (fun H locs hP hS => ?_)
        exact kk_iretW S hr hlk hS (by simp only [o_change, c_5, c_17, c_43, reduceIte, and_self, oF, oK, fx]; exact hP) (by simp only [o_change, c_5, c_17, c_43, reduceIte, and_self, oF, oK, fnd] <;> first | rfl | decide) dX13_change_65
      · exact absurd c_43 (by first | decide | omega)
    · skip
      refine lv_iload_n hx hb dX13_change_20 rfl (lv_at hl 3 rfl) ?_
      refine lv_i2l hx hb dX13_change_21 rfl ?_
      refine lv_lconst (v := (0 : Int32).toInt64) hx hb dX13_change_22 (by decide) ?_
      refine lv_iload_n hx hb dX13_change_23 rfl (lv_at hl 2 rfl) ?_
      refine c_greatestOf S (rm_ok (Nat.le_of_ble_eq_true rfl)) hl.1 (Nat.le_of_ble_eq_true rfl) dX13_change_24 ?_
      refine lv_i2l hx hb dX13_change_27 rfl ?_
      refine c_isIn S (rm_ok (Nat.le_of_ble_eq_true rfl)) hl.1 (Nat.le_of_ble_eq_true rfl) dX13_change_28 ?_
      refine kb_ifeq (tgt := 38) S dX13_change_31 (by decide) (fun c_31 => ?_) (fun c_31 => ?_)
      · skip
        refine lv_iconst (v := 0) hx hb dX13_change_38 (by decide) ?_
        refine lv_istore (lv' := [(4, .int (0)), (0, .ref (t.2.1 0)), (1, .int (a)), (2, .int (w)), (3, .int (v))]) hx hb dX13_change_39 hl (by decide) rfl (fun ls hl => ?_)
        refine lv_iload hx hb dX13_change_41 (lv_at hl 0 rfl) ?_
        refine kb_eq0_n (tgt := 59) (a := 0) S rfl (by omega) dX13_change_43 (by decide) (fun c_43 => ?_) (fun c_43 => ?_)
        · skip
          refine lv_aload_n hx hb dX13_change_59 rfl (lv_at hl 1 rfl) ?_
          refine lv_ldc (v := (-1000001)) hx hb hown (hts _ q1305) dX13_change_60 ?_
          refine c_finds S hK hP hS (rm_ok (Nat.le_of_ble_eq_true rfl)) hl.1 (0) (by decide) (by decide) (Nat.le_of_ble_eq_true rfl) dX13_change_62 (fun H locs hP hS => ?_)
          exact kk_iretW S hr hlk hS (by simp only [o_change, c_5, c_17, c_31, c_43, reduceIte, and_self, oF, oK, fx]; exact hP) (by simp only [o_change, c_5, c_17, c_31, c_43, reduceIte, and_self, oF, oK, fnd] <;> first | rfl | decide) dX13_change_65
        · exact absurd c_43 (by first | decide | omega)
      · skip
        obtain ⟨a_, ha_, rfl⟩ := nat_of_lt (n := pN r) (hn) (by omega) c_5
        have hcl_a_ := nI_clamp (n := a_) (by omega)
        obtain ⟨w_, hw_, rfl⟩ := nat_of_le (n := 6) (rfl) (by omega) c_17
        have hcl_w_ := nI_clamp (n := w_) (by omega)
        refine lv_iconst (v := 1) hx hb dX13_change_34 (by decide) ?_
        refine lv_goto (tgt := 39) hx hb dX13_change_35 (by decide) ?_
        refine lv_istore (lv' := [(4, .int (1)), (0, .ref (t.2.1 0)), (1, .int ((nI a_))), (2, .int ((nI w_))), (3, .int (v))]) hx hb dX13_change_39 hl (by decide) rfl (fun ls hl => ?_)
        refine lv_iload hx hb dX13_change_41 (lv_at hl 0 rfl) ?_
        refine kb_eq0_n (tgt := 59) (a := 1) S rfl (by omega) dX13_change_43 (by decide) (fun c_43 => ?_) (fun c_43 => ?_)
        · exact absurd c_43 (by first | decide | omega)
        · skip
          refine lv_aload_n hx hb dX13_change_46 rfl (lv_at hl 1 rfl) ?_
          refine lv_iload_n hx hb dX13_change_47 rfl (lv_at hl 2 rfl) ?_
          refine lv_iload_n hx hb dX13_change_48 rfl (lv_at hl 3 rfl) ?_
          refine c_at S (rm_ok (Nat.le_of_ble_eq_true rfl)) hl.1 (a_) (w_) rfl rfl (Nat.le_of_ble_eq_true rfl) dX13_change_49 ?_
          refine lv_iload_n hx hb dX13_change_52 rfl (lv_at hl 4 rfl) ?_
          refine c_becomes S hK hP hS (rm_ok (Nat.le_of_ble_eq_true rfl)) hl.1 ((16 + 7 * a_ + w_)) (by omega) rfl (Nat.le_of_ble_eq_true rfl) dX13_change_53 (fun H locs hP hS => ?_)
          refine lv_goto (tgt := 65) hx hb dX13_change_56 (by decide) ?_
          exact kk_iretW S hr hlk hS (by simp only [o_change, c_5, c_17, c_31, c_43, hcl_a_, hcl_w_, reduceIte, and_self, oF, oK, fx]; exact hP) (by simp only [o_change, c_5, c_17, c_31, c_43, hcl_a_, hcl_w_, reduceIte, and_self, oF, oK, fnd] <;> first | rfl | decide) dX13_change_65
set_option maxHeartbeats 4000000 in
set_option maxRecDepth 100000 in
theorem k_sell (l : Launch) (t : MT) (r : Rw) (x : Nat → Rw) (a : Int32) (b : Nat) (hV : pV b r) : Met l yX13_sell (ws_ yX13_sell cX13_sell 3 (some .int)) (rmF 3) (va_Pc [.ref (t.2.1 0), .int a] (fun U => mK t U ∧ mW t r x U.heap)) (kW (some (.int ((o_sell r a).1))) (mW t ((o_sell r a).2.1) (fx x (o_sell r a).2.2)) (mA t)) 0 0 (mA t) := by
  refine kk_start (by decide) (Nat.le_of_ble_eq_true rfl) ?_
  intro p e s m below meth c S hr hlk hin hB ls hl
  obtain ⟨hK, hP⟩ := hB
  have hx := S.1
  have hb := S.2.1
  have hown : s.vm.findClass RX13 = some m.cls := S.2.2.2.1
  have hts := S.2.2.2.2
  have hS : va_S (mA t) s.heap s.heap [] := va_S.rf
  have hl : lv_has ls 3 [(0, .ref (t.2.1 0)), (1, .int (a))] := hl
  have hn := hV.n.1
  have hn8 := hV.n.2
  refine lv_aload_n hx hb dX13_sell_0 rfl (lv_at hl 0 rfl) ?_
  refine lv_iload_n hx hb dX13_sell_1 rfl (lv_at hl 1 rfl) ?_
  refine c_isCask S hK hP (rm_ok (Nat.le_of_ble_eq_true rfl)) hl.1 (Nat.le_of_ble_eq_true rfl) dX13_sell_2 ?_
  refine kb_ifne (tgt := 15) S dX13_sell_5 (by decide) (fun c_5 => ?_) (fun c_5 => ?_)
  · skip
    obtain ⟨a_, ha_, rfl⟩ := nat_of_lt (n := pN r) (hn) (by omega) c_5
    have hcl_a_ := nI_clamp (n := a_) (by omega)
    refine lv_aload_n hx hb dX13_sell_15 rfl (lv_at hl 0 rfl) ?_
    refine lv_iload_n hx hb dX13_sell_16 rfl (lv_at hl 1 rfl) ?_
    refine c_loud S hK hP (rm_ok (Nat.le_of_ble_eq_true rfl)) hl.1 (a_) (b) (by omega) hV rfl (Nat.le_of_ble_eq_true rfl) dX13_sell_17 ?_
    refine lv_istore_n (lv' := [(2, .int (p_loud r a_)), (0, .ref (t.2.1 0)), (1, .int ((nI a_)))]) hx hb dX13_sell_20 rfl hl (by decide) rfl (fun ls hl => ?_)
    refine lv_aload_n hx hb dX13_sell_21 rfl (lv_at hl 1 rfl) ?_
    refine mg_s S hK hP dX13_sell_22 ?_
    refine lv_iload_n hx hb dX13_sell_25 rfl (lv_at hl 2 rfl) ?_
    refine lv_iconst (v := 2) hx hb dX13_sell_26 (by decide) ?_
    refine c_at S (rm_ok (Nat.le_of_ble_eq_true rfl)) hl.1 (a_) (2) rfl rfl (Nat.le_of_ble_eq_true rfl) dX13_sell_27 ?_
    refine lv_iconst (v := 0) hx hb dX13_sell_30 (by decide) ?_
    refine mk_sts S hK hP hS ((16 + 7 * a_ + 2)) (by omega) rfl dX13_sell_31 (fun H locs hP hS => ?_)
    refine lv_aload_n hx hb dX13_sell_32 rfl (lv_at hl 1 rfl) ?_
    refine mg_s S hK hP dX13_sell_33 ?_
    refine lv_iload_n hx hb dX13_sell_36 rfl (lv_at hl 2 rfl) ?_
    refine lv_iconst (v := 5) hx hb dX13_sell_37 (by decide) ?_
    refine c_at S (rm_ok (Nat.le_of_ble_eq_true rfl)) hl.1 (a_) (5) rfl rfl (Nat.le_of_ble_eq_true rfl) dX13_sell_38 ?_
    refine lv_iconst (v := 0) hx hb dX13_sell_41 (by decide) ?_
    refine mk_sts S hK hP hS ((16 + 7 * a_ + 5)) (by omega) rfl dX13_sell_42 (fun H locs hP hS => ?_)
    refine lv_iload_n hx hb dX13_sell_43 rfl (lv_at hl 0 rfl) ?_
    exact kk_iretW S hr hlk hS (by simp only [o_sell, c_5, hcl_a_, reduceIte, and_self, oF, oK, fx]; exact hP) (by simp only [o_sell, c_5, hcl_a_, reduceIte, and_self, oF, oK, fnd] <;> first | rfl | decide) dX13_sell_44
  · skip
    refine lv_aload_n hx hb dX13_sell_8 rfl (lv_at hl 0 rfl) ?_
    refine lv_ldc (v := (-1000001)) hx hb hown (hts _ q1305) dX13_sell_9 ?_
    refine c_finds S hK hP hS (rm_ok (Nat.le_of_ble_eq_true rfl)) hl.1 (0) (by decide) (by decide) (Nat.le_of_ble_eq_true rfl) dX13_sell_11 (fun H locs hP hS => ?_)
    exact kk_iretW S hr hlk hS (by simp only [o_sell, c_5, reduceIte, and_self, oF, oK, fx]; exact hP) (by simp only [o_sell, c_5, reduceIte, and_self, oF, oK, fnd] <;> first | rfl | decide) dX13_sell_14

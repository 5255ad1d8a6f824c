theorem sub_le_iff {N f n : Int32} {k : Nat} (hN : N = nI k) (hk : k ≤ 40) (hf : 0 ≤ f) (hn : 0 ≤ n) : f ≤ N - n ↔ n ≤ N - f := by
  subst hN
  obtain ⟨a, ha, rfl⟩ := nI_of (Int32.not_lt.mpr hf)
  obtain ⟨c, hc, rfl⟩ := nI_of (Int32.not_lt.mpr hn)
  rw [Int32.le_iff_toInt_le, Int32.le_iff_toInt_le, Int32.toInt_sub, Int32.toInt_sub, nI_toInt hc, nI_toInt ha, nI_toInt (show k < 2 ^ 31 by omega), Int.bmod_eq_of_le (by omega) (by omega), Int.bmod_eq_of_le (by omega) (by omega)]
  omega
set_option maxHeartbeats 4000000 in
set_option maxRecDepth 100000 in
theorem k0_copy (l : Launch) (t : CT) (r : Rw) (x : Nat → Rw) (y : Nat → Rw) (v : Int32) (f : Int32) (u : Int32) (g : Int32) (n : Int32) : Met l yX0_copy (wsW_ yX0_copy cX0_copy 8 (some .int) [(0, 120, 121, 49)]) (rmF 3) (va_Pc [.ref (t.2.1 0), .int v, .int f, .int u, .int g, .int n] (fun U => cK t U ∧ cX t r x U.heap ∧ cSh t y U.heap)) (kW (some (.int ((o_copy (y 6) (mSv y) r v f u g n).1))) (fun H => ∃ x1, cJ (fx x (o_copy (y 6) (mSv y) r v f u g n).2.2) x1 ∧ cX t ((o_copy (y 6) (mSv y) r v f u g n).2.1) x1 H ∧ cSh t (cpy_ y v f u g n (o_copy (y 6) (mSv y) r v f u g n).2.2) H) (cAS t)) 0 0 (cAS t) := by
  refine kk_startW (by decide) (Nat.le_of_ble_eq_true rfl) ?_
  intro p e s m below meth c S hr hlk hts_ hB ls hl
  obtain ⟨hK, hP⟩ := hB
  have hx := S.1
  have hb := S.2.1
  have hown : s.vm.findClass RX0 = some m.cls := S.2.2.2.1
  have hts := S.2.2.2.2
  have hS : va_S (cA t) s.heap s.heap [] := va_S.rf
  have hl : lv_has ls 8 [(0, .ref (t.2.1 0)), (1, .int (v)), (2, .int (f)), (3, .int (u)), (4, .int (g)), (5, .int (n))] := hl
  obtain ⟨hP, hQ⟩ := hP
  refine lv_aload_n hx hb dX0_copy_0 rfl (lv_at hl 0 rfl) ?_
  refine lv_iload_n hx hb dX0_copy_1 rfl (lv_at hl 1 rfl) ?_
  refine cc_rowAt S hK hP hS (rm_ok (Nat.le_of_ble_eq_true rfl)) hl.1 (Nat.le_of_ble_eq_true rfl) dX0_copy_2 (fun ho_2 H locs hP hS => ?_) (fun j_2 ho_2 H locs hP hS => ?_)
  · skip
    have hv4 := oif_n.mp ho_2
    obtain ⟨v_, hv_, rfl⟩ := nat_of_lt (n := 4) rfl (by omega) hv4
    have hcl_v_ := nI_clamp (n := v_) (by omega)
    rcases hg : cG t v_ with _ | g_
    · skip
      refine kb_val (y := .null) (by rw [hcl_v_, hg]; rfl) ?_
      have hq_ := hQ.nn hv_ hg
      refine lv_astoreN (lv' := [(6, .null), (0, .ref (t.2.1 0)), (1, .int ((nI v_))), (2, .int (f)), (3, .int (u)), (4, .int (g)), (5, .int (n))]) hx hb dX0_copy_5 hl (by decide) rfl (fun ls hl => ?_)
      refine lv_aload_n hx hb dX0_copy_7 rfl (lv_at hl 1 rfl) ?_
      refine lv_iload_n hx hb dX0_copy_8 rfl (lv_at hl 4 rfl) ?_
      refine cc_rowAt S hK hP hS (rm_ok (Nat.le_of_ble_eq_true rfl)) hl.1 (Nat.le_of_ble_eq_true rfl) dX0_copy_9 (fun ho_9 H locs hP hS => ?_) (fun j_9 ho_9 H locs hP hS => ?_)
      · skip
        have hu4 := oif_n.mp ho_9
        obtain ⟨u_, hu_, rfl⟩ := nat_of_lt (n := 4) rfl (by omega) hu4
        have hcl_u_ := nI_clamp (n := u_) (by omega)
        rcases hgu : cG t u_ with _ | g2_
        · skip
          refine kb_val (y := .null) (by rw [hcl_u_, hgu]; rfl) ?_
          have hq2_ := hQ.nn hu_ hgu
          refine lv_astoreN (lv' := [(7, .null), (6, .null), (0, .ref (t.2.1 0)), (1, .int ((nI v_))), (2, .int (f)), (3, .int ((nI u_))), (4, .int (g)), (5, .int (n))]) hx hb dX0_copy_12 hl (by decide) rfl (fun ls hl => ?_)
          refine lv_aload_n hx hb dX0_copy_14 rfl (lv_at hl 2 rfl) ?_
          refine lv_aloadN hx hb dX0_copy_15 (lv_at hl 1 rfl) ?_
          refine lv_ifnullN (tgt := 29) hx hb dX0_copy_17 (by decide) ?_
          refine lv_iconst (v := 0) hx hb dX0_copy_29 (by decide) ?_
          refine lv_iconst (v := 5) hx hb dX0_copy_30 (by decide) ?_
          refine cc_need0 S hK hP hS (rm_ok (Nat.le_of_ble_eq_true rfl)) hl.1 (5) (by decide) rfl (Nat.le_of_ble_eq_true rfl) dX0_copy_31 (fun H locs hP hS => ?_)
          refine cx_catch S hK hP hts_ (by decide) (by decide) ?_
          refine lv_astore (lv' := [(6, .ref (t.2.1 2)), (7, .null), (0, .ref (t.2.1 0)), (1, .int ((nI v_))), (2, .int (f)), (3, .int ((nI u_))), (4, .int (g)), (5, .int (n))]) hx hb dX0_copy_121 hl (by decide) rfl (fun ls hl => ?_)
          refine lv_aload_n hx hb dX0_copy_123 rfl (lv_at hl 2 rfl) ?_
          refine lv_aload hx hb dX0_copy_124 (lv_at hl 0 rfl) ?_
          refine cgr_finding S hK hP dX0_copy_126 ?_
          refine cc_finding S hK hP hS (rm_ok (Nat.le_of_ble_eq_true rfl)) hl.1 (5) (by decide) rfl (Nat.le_of_ble_eq_true rfl) dX0_copy_129 (fun H locs hP hS => ?_)
          exact kk_iretW S hr hlk hS.as (by simp only [o_copy, hv4, hu4, hcl_v_, hq_, reduceIte, and_self, reduceIte, oF, fx, cpy_]; exact ⟨_, (((cJ.rf _)).j12).fnd 5, hP, hQ.keep hS⟩) (by simp only [o_copy, hv4, hu4, hcl_v_, hq_, reduceIte, and_self, reduceIte, oF]) dX0_copy_132
        · skip
          refine kb_val (y := .ref g2_) (by rw [hcl_u_, hgu]; rfl) ?_
          have hq2_ := hQ.sm hu_ hgu
          obtain ⟨hm7, hm40⟩ := (hQ.row hu_ hgu).len
          refine lv_astore (lv' := [(7, .ref g2_), (6, .null), (0, .ref (t.2.1 0)), (1, .int ((nI v_))), (2, .int (f)), (3, .int ((nI u_))), (4, .int (g)), (5, .int (n))]) hx hb dX0_copy_12 hl (by decide) rfl (fun ls hl => ?_)
          refine lv_aload_n hx hb dX0_copy_14 rfl (lv_at hl 2 rfl) ?_
          refine lv_aloadN hx hb dX0_copy_15 (lv_at hl 1 rfl) ?_
          refine lv_ifnullN (tgt := 29) hx hb dX0_copy_17 (by decide) ?_
          refine lv_iconst (v := 0) hx hb dX0_copy_29 (by decide) ?_
          refine lv_iconst (v := 5) hx hb dX0_copy_30 (by decide) ?_
          refine cc_need0 S hK hP hS (rm_ok (Nat.le_of_ble_eq_true rfl)) hl.1 (5) (by decide) rfl (Nat.le_of_ble_eq_true rfl) dX0_copy_31 (fun H locs hP hS => ?_)
          refine cx_catch S hK hP hts_ (by decide) (by decide) ?_
          refine lv_astore (lv' := [(6, .ref (t.2.1 2)), (7, .ref g2_), (0, .ref (t.2.1 0)), (1, .int ((nI v_))), (2, .int (f)), (3, .int ((nI u_))), (4, .int (g)), (5, .int (n))]) hx hb dX0_copy_121 hl (by decide) rfl (fun ls hl => ?_)
          refine lv_aload_n hx hb dX0_copy_123 rfl (lv_at hl 2 rfl) ?_
          refine lv_aload hx hb dX0_copy_124 (lv_at hl 0 rfl) ?_
          refine cgr_finding S hK hP dX0_copy_126 ?_
          refine cc_finding S hK hP hS (rm_ok (Nat.le_of_ble_eq_true rfl)) hl.1 (5) (by decide) rfl (Nat.le_of_ble_eq_true rfl) dX0_copy_129 (fun H locs hP hS => ?_)
          exact kk_iretW S hr hlk hS.as (by simp only [o_copy, hv4, hu4, hcl_v_, hq_, reduceIte, and_self, reduceIte, oF, fx, cpy_]; exact ⟨_, (((cJ.rf _)).j12).fnd 5, hP, hQ.keep hS⟩) (by simp only [o_copy, hv4, hu4, hcl_v_, hq_, reduceIte, and_self, reduceIte, oF]) dX0_copy_132
      · skip
        obtain ⟨hu4, hj_⟩ := oif_s.mp ho_9
        subst hj_
        refine cx_catch S hK hP hts_ (by decide) (by decide) ?_
        refine lv_astore (lv' := [(6, .ref (t.2.1 2)), (0, .ref (t.2.1 0)), (1, .int ((nI v_))), (2, .int (f)), (3, .int (u)), (4, .int (g)), (5, .int (n))]) hx hb dX0_copy_121 hl (by decide) rfl (fun ls hl => ?_)
        refine lv_aload_n hx hb dX0_copy_123 rfl (lv_at hl 1 rfl) ?_
        refine lv_aload hx hb dX0_copy_124 (lv_at hl 0 rfl) ?_
        refine cgr_finding S hK hP dX0_copy_126 ?_
        refine cc_finding S hK hP hS (rm_ok (Nat.le_of_ble_eq_true rfl)) hl.1 (0) (by decide) rfl (Nat.le_of_ble_eq_true rfl) dX0_copy_129 (fun H locs hP hS => ?_)
        exact kk_iretW S hr hlk hS.as (by simp only [o_copy, hv4, hu4, reduceIte, and_self, reduceIte, oF, fx, cpy_]; exact ⟨_, (((cJ.rf _)).j12).fnd 0, hP, hQ.keep hS⟩) (by simp only [o_copy, hv4, hu4, reduceIte, and_self, reduceIte, oF]) dX0_copy_132
    · skip
      refine kb_val (y := .ref g_) (by rw [hcl_v_, hg]; rfl) ?_
      have hq_ := hQ.sm hv_ hg
      obtain ⟨hn7, hn40⟩ := (hQ.row hv_ hg).len
      refine lv_astore (lv' := [(6, .ref g_), (0, .ref (t.2.1 0)), (1, .int ((nI v_))), (2, .int (f)), (3, .int (u)), (4, .int (g)), (5, .int (n))]) hx hb dX0_copy_5 hl (by decide) rfl (fun ls hl => ?_)
      refine lv_aload_n hx hb dX0_copy_7 rfl (lv_at hl 1 rfl) ?_
      refine lv_iload_n hx hb dX0_copy_8 rfl (lv_at hl 4 rfl) ?_
      refine cc_rowAt S hK hP hS (rm_ok (Nat.le_of_ble_eq_true rfl)) hl.1 (Nat.le_of_ble_eq_true rfl) dX0_copy_9 (fun ho_9 H locs hP hS => ?_) (fun j_9 ho_9 H locs hP hS => ?_)
      · skip
        have hu4 := oif_n.mp ho_9
        obtain ⟨u_, hu_, rfl⟩ := nat_of_lt (n := 4) rfl (by omega) hu4
        have hcl_u_ := nI_clamp (n := u_) (by omega)
        rcases hgu : cG t u_ with _ | g2_
        · skip
          refine kb_val (y := .null) (by rw [hcl_u_, hgu]; rfl) ?_
          have hq2_ := hQ.nn hu_ hgu
          refine lv_astoreN (lv' := [(7, .null), (6, .ref g_), (0, .ref (t.2.1 0)), (1, .int ((nI v_))), (2, .int (f)), (3, .int ((nI u_))), (4, .int (g)), (5, .int (n))]) hx hb dX0_copy_12 hl (by decide) rfl (fun ls hl => ?_)
          refine lv_aload_n hx hb dX0_copy_14 rfl (lv_at hl 2 rfl) ?_
          refine lv_aload hx hb dX0_copy_15 (lv_at hl 1 rfl) ?_
          refine lv_ifnull hx hb dX0_copy_17 ?_
          refine lv_aloadN hx hb dX0_copy_20 (lv_at hl 0 rfl) ?_
          refine lv_ifnullN (tgt := 29) hx hb dX0_copy_22 (by decide) ?_
          refine lv_iconst (v := 0) hx hb dX0_copy_29 (by decide) ?_
          refine lv_iconst (v := 5) hx hb dX0_copy_30 (by decide) ?_
          refine cc_need0 S hK hP hS (rm_ok (Nat.le_of_ble_eq_true rfl)) hl.1 (5) (by decide) rfl (Nat.le_of_ble_eq_true rfl) dX0_copy_31 (fun H locs hP hS => ?_)
          refine cx_catch S hK hP hts_ (by decide) (by decide) ?_
          refine lv_astore (lv' := [(6, .ref (t.2.1 2)), (7, .null), (0, .ref (t.2.1 0)), (1, .int ((nI v_))), (2, .int (f)), (3, .int ((nI u_))), (4, .int (g)), (5, .int (n))]) hx hb dX0_copy_121 hl (by decide) rfl (fun ls hl => ?_)
          refine lv_aload_n hx hb dX0_copy_123 rfl (lv_at hl 2 rfl) ?_
          refine lv_aload hx hb dX0_copy_124 (lv_at hl 0 rfl) ?_
          refine cgr_finding S hK hP dX0_copy_126 ?_
          refine cc_finding S hK hP hS (rm_ok (Nat.le_of_ble_eq_true rfl)) hl.1 (5) (by decide) rfl (Nat.le_of_ble_eq_true rfl) dX0_copy_129 (fun H locs hP hS => ?_)
          exact kk_iretW S hr hlk hS.as (by simp only [o_copy, hv4, hu4, hcl_v_, hcl_u_, hq_, hq2_, reduceIte, and_self, reduceIte, oF, fx, cpy_]; exact ⟨_, (((cJ.rf _)).j12).fnd 5, hP, hQ.keep hS⟩) (by simp only [o_copy, hv4, hu4, hcl_v_, hcl_u_, hq_, hq2_, reduceIte, and_self, reduceIte, oF]) dX0_copy_132
        · skip
          refine kb_val (y := .ref g2_) (by rw [hcl_u_, hgu]; rfl) ?_
          have hq2_ := hQ.sm hu_ hgu
          obtain ⟨hm7, hm40⟩ := (hQ.row hu_ hgu).len
          refine lv_astore (lv' := [(7, .ref g2_), (6, .ref g_), (0, .ref (t.2.1 0)), (1, .int ((nI v_))), (2, .int (f)), (3, .int ((nI u_))), (4, .int (g)), (5, .int (n))]) hx hb dX0_copy_12 hl (by decide) rfl (fun ls hl => ?_)
          refine lv_aload_n hx hb dX0_copy_14 rfl (lv_at hl 2 rfl) ?_
          refine lv_aload hx hb dX0_copy_15 (lv_at hl 1 rfl) ?_
          refine lv_ifnull hx hb dX0_copy_17 ?_
          refine lv_aload hx hb dX0_copy_20 (lv_at hl 0 rfl) ?_
          refine lv_ifnull hx hb dX0_copy_22 ?_
          refine lv_iconst (v := 1) hx hb dX0_copy_25 (by decide) ?_
          refine lv_goto (tgt := 30) hx hb dX0_copy_26 (by decide) ?_
          refine lv_iconst (v := 5) hx hb dX0_copy_30 (by decide) ?_
          refine cc_need1 S hK hP hS (rm_ok (Nat.le_of_ble_eq_true rfl)) hl.1 (5) (by decide) rfl (Nat.le_of_ble_eq_true rfl) dX0_copy_31 (fun H locs hP hS => ?_)
          refine lv_aload_n hx hb dX0_copy_34 rfl (lv_at hl 2 rfl) ?_
          refine lv_aload hx hb dX0_copy_35 (lv_at hl 1 rfl) ?_
          refine cc_widthOf S hK hP (hQ.keep hS) (rm_ok (Nat.le_of_ble_eq_true rfl)) hl.1 (v_) hv_ hg (Nat.le_of_ble_eq_true rfl) dX0_copy_37 ?_
          refine lv_aload hx hb dX0_copy_40 (lv_at hl 0 rfl) ?_
          refine cc_widthOf S hK hP (hQ.keep hS) (rm_ok (Nat.le_of_ble_eq_true rfl)) hl.1 (u_) hu_ hgu (Nat.le_of_ble_eq_true rfl) dX0_copy_42 ?_
          refine lv_icmp_ne (tgt := 52) hx hb dX0_copy_45 (by decide) (fun c_45 => ?_) (fun c_45 => ?_)
          · skip
            refine lv_iconst (v := 0) hx hb dX0_copy_52 (by decide) ?_
            refine lv_iconst (v := 2) hx hb dX0_copy_53 (by decide) ?_
            refine cc_need0 S hK hP hS (rm_ok (Nat.le_of_ble_eq_true rfl)) hl.1 (2) (by decide) rfl (Nat.le_of_ble_eq_true rfl) dX0_copy_54 (fun H locs hP hS => ?_)
            refine cx_catch S hK hP hts_ (by decide) (by decide) ?_
            refine lv_astore (lv' := [(6, .ref (t.2.1 2)), (7, .ref g2_), (0, .ref (t.2.1 0)), (1, .int ((nI v_))), (2, .int (f)), (3, .int ((nI u_))), (4, .int (g)), (5, .int (n))]) hx hb dX0_copy_121 hl (by decide) rfl (fun ls hl => ?_)
            refine lv_aload_n hx hb dX0_copy_123 rfl (lv_at hl 2 rfl) ?_
            refine lv_aload hx hb dX0_copy_124 (lv_at hl 0 rfl) ?_
            refine cgr_finding S hK hP dX0_copy_126 ?_
            refine cc_finding S hK hP hS (rm_ok (Nat.le_of_ble_eq_true rfl)) hl.1 (2) (by decide) rfl (Nat.le_of_ble_eq_true rfl) dX0_copy_129 (fun H locs hP hS => ?_)
            exact kk_iretW S hr hlk hS.as (by simp only [o_copy, hv4, hu4, hcl_v_, hcl_u_, hq_, hq2_, reduceIte, and_self, c_45, reduceIte, oF, fx, cpy_]; exact ⟨_, (((cJ.rf _)).j12).fnd 2, hP, hQ.keep hS⟩) (by simp only [o_copy, hv4, hu4, hcl_v_, hcl_u_, hq_, hq2_, reduceIte, and_self, c_45, reduceIte, oF]) dX0_copy_132
          · skip
            refine lv_iconst (v := 1) hx hb dX0_copy_48 (by decide) ?_
            refine lv_goto (tgt := 53) hx hb dX0_copy_49 (by decide) ?_
            refine lv_iconst (v := 2) hx hb dX0_copy_53 (by decide) ?_
            refine cc_need1 S hK hP hS (rm_ok (Nat.le_of_ble_eq_true rfl)) hl.1 (2) (by decide) rfl (Nat.le_of_ble_eq_true rfl) dX0_copy_54 (fun H locs hP hS => ?_)
            refine lv_aload_n hx hb dX0_copy_57 rfl (lv_at hl 2 rfl) ?_
            refine lv_iload hx hb dX0_copy_58 (lv_at hl 7 rfl) ?_
            refine lv_if_lt (tgt := 101) hx hb dX0_copy_60 (by decide) (fun c_60 => ?_) (fun c_60 => ?_)
            · skip
              have hbad : ¬ (0 ≤ f ∧ 0 ≤ g ∧ 0 ≤ n ∧ n ≤ y 7 v_ - f ∧ n ≤ y 7 u_ - g) := fun z => absurd z.2.2.1 (Int32.not_le.mpr c_60)
              refine lv_iconst (v := 0) hx hb dX0_copy_101 (by decide) ?_
              refine lv_iconst (v := 0) hx hb dX0_copy_102 (by decide) ?_
              refine cc_need0 S hK hP hS (rm_ok (Nat.le_of_ble_eq_true rfl)) hl.1 (0) (by decide) rfl (Nat.le_of_ble_eq_true rfl) dX0_copy_103 (fun H locs hP hS => ?_)
              refine cx_catch S hK hP hts_ (by decide) (by decide) ?_
              refine lv_astore (lv' := [(6, .ref (t.2.1 2)), (7, .ref g2_), (0, .ref (t.2.1 0)), (1, .int ((nI v_))), (2, .int (f)), (3, .int ((nI u_))), (4, .int (g)), (5, .int (n))]) hx hb dX0_copy_121 hl (by decide) rfl (fun ls hl => ?_)
              refine lv_aload_n hx hb dX0_copy_123 rfl (lv_at hl 2 rfl) ?_
              refine lv_aload hx hb dX0_copy_124 (lv_at hl 0 rfl) ?_
              refine cgr_finding S hK hP dX0_copy_126 ?_
              refine cc_finding S hK hP hS (rm_ok (Nat.le_of_ble_eq_true rfl)) hl.1 (0) (by decide) rfl (Nat.le_of_ble_eq_true rfl) dX0_copy_129 (fun H locs hP hS => ?_)
              exact kk_iretW S hr hlk hS.as (by simp only [o_copy, hv4, hu4, hcl_v_, hcl_u_, hq_, hq2_, reduceIte, and_self, c_45, ← hn7, ← hm7, hbad, reduceIte, oF, fx, cpy_]; exact ⟨_, (((cJ.rf _)).j12).fnd 0, hP, hQ.keep hS⟩) (by simp only [o_copy, hv4, hu4, hcl_v_, hcl_u_, hq_, hq2_, reduceIte, and_self, c_45, ← hn7, ← hm7, hbad, reduceIte, oF]) dX0_copy_132
            · skip
              refine lv_iload_n hx hb dX0_copy_63 rfl (lv_at hl 4 rfl) ?_
              refine lv_if_lt (tgt := 101) hx hb dX0_copy_64 (by decide) (fun c_64 => ?_) (fun c_64 => ?_)
              · skip
                have hbad : ¬ (0 ≤ f ∧ 0 ≤ g ∧ 0 ≤ n ∧ n ≤ y 7 v_ - f ∧ n ≤ y 7 u_ - g) := fun z => absurd z.1 (Int32.not_le.mpr c_64)
                refine lv_iconst (v := 0) hx hb dX0_copy_101 (by decide) ?_
                refine lv_iconst (v := 0) hx hb dX0_copy_102 (by decide) ?_
                refine cc_need0 S hK hP hS (rm_ok (Nat.le_of_ble_eq_true rfl)) hl.1 (0) (by decide) rfl (Nat.le_of_ble_eq_true rfl) dX0_copy_103 (fun H locs hP hS => ?_)
                refine cx_catch S hK hP hts_ (by decide) (by decide) ?_
                refine lv_astore (lv' := [(6, .ref (t.2.1 2)), (7, .ref g2_), (0, .ref (t.2.1 0)), (1, .int ((nI v_))), (2, .int (f)), (3, .int ((nI u_))), (4, .int (g)), (5, .int (n))]) hx hb dX0_copy_121 hl (by decide) rfl (fun ls hl => ?_)
                refine lv_aload_n hx hb dX0_copy_123 rfl (lv_at hl 2 rfl) ?_
                refine lv_aload hx hb dX0_copy_124 (lv_at hl 0 rfl) ?_
                refine cgr_finding S hK hP dX0_copy_126 ?_
                refine cc_finding S hK hP hS (rm_ok (Nat.le_of_ble_eq_true rfl)) hl.1 (0) (by decide) rfl (Nat.le_of_ble_eq_true rfl) dX0_copy_129 (fun H locs hP hS => ?_)
                exact kk_iretW S hr hlk hS.as (by simp only [o_copy, hv4, hu4, hcl_v_, hcl_u_, hq_, hq2_, reduceIte, and_self, c_45, ← hn7, ← hm7, hbad, reduceIte, oF, fx, cpy_]; exact ⟨_, (((cJ.rf _)).j12).fnd 0, hP, hQ.keep hS⟩) (by simp only [o_copy, hv4, hu4, hcl_v_, hcl_u_, hq_, hq2_, reduceIte, and_self, c_45, ← hn7, ← hm7, hbad, reduceIte, oF]) dX0_copy_132
              · skip
                refine lv_iload hx hb dX0_copy_67 (lv_at hl 6 rfl) ?_
                refine lv_if_lt (tgt := 101) hx hb dX0_copy_69 (by decide) (fun c_69 => ?_) (fun c_69 => ?_)
                · skip
                  have hbad : ¬ (0 ≤ f ∧ 0 ≤ g ∧ 0 ≤ n ∧ n ≤ y 7 v_ - f ∧ n ≤ y 7 u_ - g) := fun z => absurd z.2.1 (Int32.not_le.mpr c_69)
                  refine lv_iconst (v := 0) hx hb dX0_copy_101 (by decide) ?_
                  refine lv_iconst (v := 0) hx hb dX0_copy_102 (by decide) ?_
                  refine cc_need0 S hK hP hS (rm_ok (Nat.le_of_ble_eq_true rfl)) hl.1 (0) (by decide) rfl (Nat.le_of_ble_eq_true rfl) dX0_copy_103 (fun H locs hP hS => ?_)
                  refine cx_catch S hK hP hts_ (by decide) (by decide) ?_
                  refine lv_astore (lv' := [(6, .ref (t.2.1 2)), (7, .ref g2_), (0, .ref (t.2.1 0)), (1, .int ((nI v_))), (2, .int (f)), (3, .int ((nI u_))), (4, .int (g)), (5, .int (n))]) hx hb dX0_copy_121 hl (by decide) rfl (fun ls hl => ?_)
                  refine lv_aload_n hx hb dX0_copy_123 rfl (lv_at hl 2 rfl) ?_
                  refine lv_aload hx hb dX0_copy_124 (lv_at hl 0 rfl) ?_
                  refine cgr_finding S hK hP dX0_copy_126 ?_
                  refine cc_finding S hK hP hS (rm_ok (Nat.le_of_ble_eq_true rfl)) hl.1 (0) (by decide) rfl (Nat.le_of_ble_eq_true rfl) dX0_copy_129 (fun H locs hP hS => ?_)
                  exact kk_iretW S hr hlk hS.as (by simp only [o_copy, hv4, hu4, hcl_v_, hcl_u_, hq_, hq2_, reduceIte, and_self, c_45, ← hn7, ← hm7, hbad, reduceIte, oF, fx, cpy_]; exact ⟨_, (((cJ.rf _)).j12).fnd 0, hP, hQ.keep hS⟩) (by simp only [o_copy, hv4, hu4, hcl_v_, hcl_u_, hq_, hq2_, reduceIte, and_self, c_45, ← hn7, ← hm7, hbad, reduceIte, oF]) dX0_copy_132
                · skip
                  refine lv_iload_n hx hb dX0_copy_72 rfl (lv_at hl 4 rfl) ?_
                  refine lv_aload hx hb dX0_copy_73 (lv_at hl 1 rfl) ?_
                  refine cc_length S hK hP (hQ.keep hS) (rm_ok (Nat.le_of_ble_eq_true rfl)) hl.1 (v_) hv_ hg (Nat.le_of_ble_eq_true rfl) dX0_copy_75 ?_
                  refine lv_iload hx hb dX0_copy_78 (lv_at hl 7 rfl) ?_
                  refine lv_isub hx hb dX0_copy_80 ?_
                  refine lv_icmp_gt (tgt := 101) hx hb dX0_copy_81 (by decide) (fun c_81 => ?_) (fun c_81 => ?_)
                  · skip
                    have hbad : ¬ (0 ≤ f ∧ 0 ≤ g ∧ 0 ≤ n ∧ n ≤ y 7 v_ - f ∧ n ≤ y 7 u_ - g) := fun z => absurd ((sub_le_iff hn7 hn40 z.1 z.2.2.1).mpr z.2.2.2.1) (Int32.not_le.mpr c_81)
                    refine lv_iconst (v := 0) hx hb dX0_copy_101 (by decide) ?_
                    refine lv_iconst (v := 0) hx hb dX0_copy_102 (by decide) ?_
                    refine cc_need0 S hK hP hS (rm_ok (Nat.le_of_ble_eq_true rfl)) hl.1 (0) (by decide) rfl (Nat.le_of_ble_eq_true rfl) dX0_copy_103 (fun H locs hP hS => ?_)
                    refine cx_catch S hK hP hts_ (by decide) (by decide) ?_
                    refine lv_astore (lv' := [(6, .ref (t.2.1 2)), (7, .ref g2_), (0, .ref (t.2.1 0)), (1, .int ((nI v_))), (2, .int (f)), (3, .int ((nI u_))), (4, .int (g)), (5, .int (n))]) hx hb dX0_copy_121 hl (by decide) rfl (fun ls hl => ?_)
                    refine lv_aload_n hx hb dX0_copy_123 rfl (lv_at hl 2 rfl) ?_
                    refine lv_aload hx hb dX0_copy_124 (lv_at hl 0 rfl) ?_
                    refine cgr_finding S hK hP dX0_copy_126 ?_
                    refine cc_finding S hK hP hS (rm_ok (Nat.le_of_ble_eq_true rfl)) hl.1 (0) (by decide) rfl (Nat.le_of_ble_eq_true rfl) dX0_copy_129 (fun H locs hP hS => ?_)
                    exact kk_iretW S hr hlk hS.as (by simp only [o_copy, hv4, hu4, hcl_v_, hcl_u_, hq_, hq2_, reduceIte, and_self, c_45, ← hn7, ← hm7, hbad, reduceIte, oF, fx, cpy_]; exact ⟨_, (((cJ.rf _)).j12).fnd 0, hP, hQ.keep hS⟩) (by simp only [o_copy, hv4, hu4, hcl_v_, hcl_u_, hq_, hq2_, reduceIte, and_self, c_45, ← hn7, ← hm7, hbad, reduceIte, oF]) dX0_copy_132
                  · skip
                    refine lv_iload hx hb dX0_copy_84 (lv_at hl 6 rfl) ?_
                    refine lv_aload hx hb dX0_copy_86 (lv_at hl 0 rfl) ?_
                    refine cc_length S hK hP (hQ.keep hS) (rm_ok (Nat.le_of_ble_eq_true rfl)) hl.1 (u_) hu_ hgu (Nat.le_of_ble_eq_true rfl) dX0_copy_88 ?_
                    refine lv_iload hx hb dX0_copy_91 (lv_at hl 7 rfl) ?_
                    refine lv_isub hx hb dX0_copy_93 ?_
                    refine lv_icmp_gt (tgt := 101) hx hb dX0_copy_94 (by decide) (fun c_94 => ?_) (fun c_94 => ?_)
                    · skip
                      have hbad : ¬ (0 ≤ f ∧ 0 ≤ g ∧ 0 ≤ n ∧ n ≤ y 7 v_ - f ∧ n ≤ y 7 u_ - g) := fun z => absurd ((sub_le_iff hm7 hm40 z.2.1 z.2.2.1).mpr z.2.2.2.2) (Int32.not_le.mpr c_94)
                      refine lv_iconst (v := 0) hx hb dX0_copy_101 (by decide) ?_
                      refine lv_iconst (v := 0) hx hb dX0_copy_102 (by decide) ?_
                      refine cc_need0 S hK hP hS (rm_ok (Nat.le_of_ble_eq_true rfl)) hl.1 (0) (by decide) rfl (Nat.le_of_ble_eq_true rfl) dX0_copy_103 (fun H locs hP hS => ?_)
                      refine cx_catch S hK hP hts_ (by decide) (by decide) ?_
                      refine lv_astore (lv' := [(6, .ref (t.2.1 2)), (7, .ref g2_), (0, .ref (t.2.1 0)), (1, .int ((nI v_))), (2, .int (f)), (3, .int ((nI u_))), (4, .int (g)), (5, .int (n))]) hx hb dX0_copy_121 hl (by decide) rfl (fun ls hl => ?_)
                      refine lv_aload_n hx hb dX0_copy_123 rfl (lv_at hl 2 rfl) ?_
                      refine lv_aload hx hb dX0_copy_124 (lv_at hl 0 rfl) ?_
                      refine cgr_finding S hK hP dX0_copy_126 ?_
                      refine cc_finding S hK hP hS (rm_ok (Nat.le_of_ble_eq_true rfl)) hl.1 (0) (by decide) rfl (Nat.le_of_ble_eq_true rfl) dX0_copy_129 (fun H locs hP hS => ?_)
                      exact kk_iretW S hr hlk hS.as (by simp only [o_copy, hv4, hu4, hcl_v_, hcl_u_, hq_, hq2_, reduceIte, and_self, c_45, ← hn7, ← hm7, hbad, reduceIte, oF, fx, cpy_]; exact ⟨_, (((cJ.rf _)).j12).fnd 0, hP, hQ.keep hS⟩) (by simp only [o_copy, hv4, hu4, hcl_v_, hcl_u_, hq_, hq2_, reduceIte, and_self, c_45, ← hn7, ← hm7, hbad, reduceIte, oF]) dX0_copy_132
                    · skip
                      have hok : (0 ≤ f ∧ 0 ≤ g ∧ 0 ≤ n ∧ n ≤ y 7 v_ - f ∧ n ≤ y 7 u_ - g) := ⟨Int32.not_lt.mp c_64, Int32.not_lt.mp c_69, Int32.not_lt.mp c_60, (sub_le_iff hn7 hn40 (Int32.not_lt.mp c_64) (Int32.not_lt.mp c_60)).mp (Int32.not_lt.mp c_81), (sub_le_iff hm7 hm40 (Int32.not_lt.mp c_69) (Int32.not_lt.mp c_60)).mp (Int32.not_lt.mp c_94)⟩
                      obtain ⟨f_, n_, rfl, rfl, hfn⟩ := cp_nat hn40 hok.1 hok.2.2.1 (hn7 ▸ hok.2.2.2.1)
                      obtain ⟨g_, m_, rfl, hnm, hgn⟩ := cp_nat hm40 hok.2.1 hok.2.2.1 (hm7 ▸ hok.2.2.2.2)
                      have hcl_f_ := nI_clamp (n := f_) (by omega)
                      have hcl_g_ := nI_clamp (n := g_) (by omega)
                      have hcl_n_ := nI_clamp (n := n_) (by omega)
                      have hm_ : n_ = m_ := (nI_eq (by omega) (by omega)).mp hnm
                      subst hm_
                      refine lv_iconst (v := 1) hx hb dX0_copy_97 (by decide) ?_
                      refine lv_goto (tgt := 102) hx hb dX0_copy_98 (by decide) ?_
                      refine lv_iconst (v := 0) hx hb dX0_copy_102 (by decide) ?_
                      refine cc_need1 S hK hP hS (rm_ok (Nat.le_of_ble_eq_true rfl)) hl.1 (0) (by decide) rfl (Nat.le_of_ble_eq_true rfl) dX0_copy_103 (fun H locs hP hS => ?_)
                      refine lv_aload hx hb dX0_copy_106 (lv_at hl 1 rfl) ?_
                      refine lv_iload_n hx hb dX0_copy_108 rfl (lv_at hl 4 rfl) ?_
                      refine lv_aload hx hb dX0_copy_109 (lv_at hl 0 rfl) ?_
                      refine lv_iload hx hb dX0_copy_111 (lv_at hl 6 rfl) ?_
                      refine lv_iload hx hb dX0_copy_113 (lv_at hl 7 rfl) ?_
                      refine cc_slide S hK hP (hQ.keep hS) hS (rm_ok (Nat.le_of_ble_eq_true rfl)) hl.1 (f_) (g_) (n_) (v_) (u_) hv_ hg hu_ hgu c_45 hfn hgn rfl rfl rfl (Nat.le_of_ble_eq_true rfl) dX0_copy_115 (fun H locs hP hQ1 hS => ?_)
                      refine lv_iload hx hb dX0_copy_118 (lv_at hl 7 rfl) ?_
                      exact kk_iretW S hr hlk hS (by simp only [o_copy, hv4, hu4, hcl_v_, hcl_u_, hq_, hq2_, reduceIte, and_self, c_45, ← hn7, ← hm7, hok, reduceIte, oK, fx, cpy_, hcl_f_, hcl_g_, hcl_n_]; exact ⟨_, (cJ.rf _), hP, hQ1⟩) (by simp only [o_copy, hv4, hu4, hcl_v_, hcl_u_, hq_, hq2_, reduceIte, and_self, c_45, ← hn7, ← hm7, hok, reduceIte, oK]) dX0_copy_120
      · skip
        obtain ⟨hu4, hj_⟩ := oif_s.mp ho_9
        subst hj_
        refine cx_catch S hK hP hts_ (by decide) (by decide) ?_
        refine lv_astore (lv' := [(6, .ref (t.2.1 2)), (0, .ref (t.2.1 0)), (1, .int ((nI v_))), (2, .int (f)), (3, .int (u)), (4, .int (g)), (5, .int (n))]) hx hb dX0_copy_121 hl (by decide) rfl (fun ls hl => ?_)
        refine lv_aload_n hx hb dX0_copy_123 rfl (lv_at hl 1 rfl) ?_
        refine lv_aload hx hb dX0_copy_124 (lv_at hl 0 rfl) ?_
        refine cgr_finding S hK hP dX0_copy_126 ?_
        refine cc_finding S hK hP hS (rm_ok (Nat.le_of_ble_eq_true rfl)) hl.1 (0) (by decide) rfl (Nat.le_of_ble_eq_true rfl) dX0_copy_129 (fun H locs hP hS => ?_)
        exact kk_iretW S hr hlk hS.as (by simp only [o_copy, hv4, hu4, reduceIte, and_self, reduceIte, oF, fx, cpy_]; exact ⟨_, (((cJ.rf _)).j12).fnd 0, hP, hQ.keep hS⟩) (by simp only [o_copy, hv4, hu4, reduceIte, and_self, reduceIte, oF]) dX0_copy_132
  · skip
    obtain ⟨hv4, hj_⟩ := oif_s.mp ho_2
    subst hj_
    refine cx_catch S hK hP hts_ (by decide) (by decide) ?_
    refine lv_astore (lv' := [(6, .ref (t.2.1 2)), (0, .ref (t.2.1 0)), (1, .int (v)), (2, .int (f)), (3, .int (u)), (4, .int (g)), (5, .int (n))]) hx hb dX0_copy_121 hl (by decide) rfl (fun ls hl => ?_)
    refine lv_aload_n hx hb dX0_copy_123 rfl (lv_at hl 1 rfl) ?_
    refine lv_aload hx hb dX0_copy_124 (lv_at hl 0 rfl) ?_
    refine cgr_finding S hK hP dX0_copy_126 ?_
    refine cc_finding S hK hP hS (rm_ok (Nat.le_of_ble_eq_true rfl)) hl.1 (0) (by decide) rfl (Nat.le_of_ble_eq_true rfl) dX0_copy_129 (fun H locs hP hS => ?_)
    exact kk_iretW S hr hlk hS.as (by simp only [o_copy, hv4, reduceIte, reduceIte, oF, fx, cpy_]; exact ⟨_, (((cJ.rf _)).j12).fnd 0, hP, hQ.keep hS⟩) (by simp only [o_copy, hv4, reduceIte, reduceIte, oF]) dX0_copy_132

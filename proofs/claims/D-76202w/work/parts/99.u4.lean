set_option maxHeartbeats 4000000 in
set_option maxRecDepth 100000 in
theorem k2_perhaps (l : Launch) (t : CT) (r : Rw) (x : Nat → Rw) (κ : Nat × Nat × Nat) (hA : ∀ q, cA t q → κ.2.2 ≤ q) (key : Nat) (what : Nat) (most : Int32) (tp : Nat) (z : Nat → Rw) (b : Nat) (hpi : PI tp z) (htz : tpe z x) (hd : RD tp z (x 10)) (hV : pV b (x 2)) (h1 : 1 ≤ pN (x 2)) (hk : key < 13) (hw : what < 7) (hm : most ≤ 999) : MetX l yX2_perhaps (ws_ yX2_perhaps cX2_perhaps 4 none) (rmF 9) (va_Pc [.ref (t.2.1 1), .int (nI key), .int (nI what), .int most] (fun U => cK t U ∧ cX t r x U.heap ∧ kS κ U U.heap)) (kP t r x tp (m_perh tp (decide (kw tp z key)) (16 + 7 * (pN (x 2) - 1) + what) most (x 2) z) none) 0 0 (cA t) := by
  refine kk_startX (by decide) (Nat.le_of_ble_eq_true rfl) ?_
  intro p e s m below meth c S hr hlk hin hB ls hl
  obtain ⟨hK, hP⟩ := hB
  have hx := S.1
  have hb := S.2.1
  have hown : s.vm.findClass RX2 = some m.cls := S.2.2.2.1
  have hts := S.2.2.2.2
  have hS : va_S (cA t) s.heap s.heap [] := va_S.rf
  have hl : lv_has ls 4 [(0, .ref (t.2.1 1)), (1, .int ((nI key))), (2, .int ((nI what))), (3, .int (most))] := hl
  obtain ⟨hP, hE⟩ := hP
  have hn := hV.n.1
  have hn8 := hV.n.2
  have hu0 := hd.1
  refine lv_aload_n hx hb dX2_perhaps_0 rfl (lv_at hl 0 rfl) ?_
  refine lv_iload_n hx hb dX2_perhaps_1 rfl (lv_at hl 1 rfl) ?_
  refine rc_isWord S hK hP (rm_ok (Nat.le_of_ble_eq_true rfl)) hl.1 (key) (tp) (z) hd hk rfl (Nat.le_of_ble_eq_true rfl) dX2_perhaps_2 ?_
  refine kb_ifeq (tgt := 33) S dX2_perhaps_5 (by decide) (fun c_5 => ?_) (fun c_5 => ?_)
  · skip
    rw [perh_f c_5]
    exact kp_vret (o := (true, x 2, z)) S hr hlk hS ⟨rfl, hd.good⟩ (xR.rf x) hd rfl hP dX2_perhaps_33
  · skip
    refine lv_aload_n hx hb dX2_perhaps_8 rfl (lv_at hl 0 rfl) ?_
    refine rg_told S hK hP dX2_perhaps_9 ?_
    refine cr_cask S hK hP dX2_perhaps_12 ?_
    refine lv_iload_n hx hb dX2_perhaps_15 rfl (lv_at hl 2 rfl) ?_
    refine ck_aald4 S hK hP (what) (by omega) rfl dX2_perhaps_16 ?_
    refine lv_aload_n hx hb dX2_perhaps_17 rfl (lv_at hl 0 rfl) ?_
    refine rg_told S hK hP dX2_perhaps_18 ?_
    refine cr_casks S hK hP dX2_perhaps_21 ?_
    refine lv_iconst (v := 1) hx hb dX2_perhaps_24 (by decide) ?_
    refine lv_isub hx hb dX2_perhaps_25 ?_
    refine lv_aload_n hx hb dX2_perhaps_26 rfl (lv_at hl 0 rfl) ?_
    refine lv_iconst (v := 0) hx hb dX2_perhaps_27 (by decide) ?_
    refine lv_iload_n hx hb dX2_perhaps_28 rfl (lv_at hl 3 rfl) ?_
    refine rc_behind S hK hP (hE.keep hA hS) hA hS (rm_ok (Nat.le_of_ble_eq_true rfl)) hl.1 (tp) (z) hpi hu0 htz hd.2.1 hm (Nat.le_of_ble_eq_true rfl) dX2_perhaps_29 (fun ho_29 x_29 H locs hx_29 hd_29 h2_29 hP hS => ?_) (fun ho_29 x_29 H locs hx_29 hf_29 hP hS => ?_)
    · skip
      obtain ⟨hm1, he1⟩ := num_ok ho_29
      rw [he1] at ho_29 hd_29 h2_29
      have e1 : m_perh tp (decide (kw tp z key)) (16 + 7 * (pN (x 2) - 1) + what) most (x 2) z = (true, upd (x 2) (16 + 7 * (pN (x 2) - 1) + what) ((q_next tp z) 9 7), q_next tp (q_next tp z)) := (perh_t c_5).trans (if_pos hm1)
      refine ck_stc4 S hK hP hS (fun _ h => h) (what) hw (((pN (x 2)) - 1)) (by omega) (nn_sub hn rfl (by omega)) dX2_perhaps_32 (fun H locs hP hS => ?_)
      rw [e1]
      exact kp_vret (o := (true, upd (x 2) (16 + 7 * (pN (x 2) - 1) + what) ((q_next tp z) 9 7), q_next tp (q_next tp z))) S hr hlk hS ho_29 hx_29.u2 hd_29 (by show upd (x_29 2) _ _ = _; rw [show x_29 2 = x 2 from h2_29]) hP dX2_perhaps_33
    · skip
      have hb := perh_num (pl := (16 + 7 * (pN (x 2) - 1) + what)) ho_29
      rw [perh_t c_5]
      exact kp_out (o := m_perh tp true (16 + 7 * (pN (x 2) - 1) + what) most (x 2) z) hin hlk hS hb.1 hx_29 (hf_29.trans hb.2.symm) hP
set_option maxHeartbeats 4000000 in
set_option maxRecDepth 100000 in
theorem k2_storm (l : Launch) (t : CT) (r : Rw) (x : Nat → Rw) (κ : Nat × Nat × Nat) (hA : ∀ q, cA t q → κ.2.2 ≤ q) (tp : Nat) (z : Nat → Rw) (hpi : PI tp z) (htz : tpe z x) (hd : RD tp z (x 10)) : MetX l yX2_storm (ws_ yX2_storm cX2_storm 2 none) (rmF 9) (va_Pc [.ref (t.2.1 1)] (fun U => cK t U ∧ cX t r x U.heap ∧ kS κ U U.heap)) (kP t r x tp (m_cellar tp 10 99 (x 2) z) none) 0 0 (cA t) := by
  refine kk_startX (by decide) (Nat.le_of_ble_eq_true rfl) ?_
  intro p e s m below meth c S hr hlk hin hB ls hl
  obtain ⟨hK, hP⟩ := hB
  have hx := S.1
  have hb := S.2.1
  have hown : s.vm.findClass RX2 = some m.cls := S.2.2.2.1
  have hts := S.2.2.2.2
  have hS : va_S (cA t) s.heap s.heap [] := va_S.rf
  have hl : lv_has ls 2 [(0, .ref (t.2.1 1))] := hl
  obtain ⟨hP, hE⟩ := hP
  have hu0 := hd.1
  refine lv_aload_n hx hb dX2_storm_0 rfl (lv_at hl 0 rfl) ?_
  refine lv_iconst (v := 0) hx hb dX2_storm_1 (by decide) ?_
  refine lv_iconst (v := 5) hx hb dX2_storm_2 (by decide) ?_
  refine rc_behind S hK hP (hE.keep hA hS) hA hS (rm_ok (Nat.le_of_ble_eq_true rfl)) hl.1 (tp) (z) hpi hu0 htz hd.2.1 (by decide) (Nat.le_of_ble_eq_true rfl) dX2_storm_3 (fun ho_3 x_3 H locs hx_3 hd_3 h2_3 hP hS => ?_) (fun ho_3 x_3 H locs hx_3 hf_3 hP hS => ?_)
  · skip
    obtain ⟨hm1, he1⟩ := num_ok ho_3
    rw [he1] at ho_3 hd_3 h2_3
    obtain ⟨v_, hv_, hve⟩ := nat_of_le (n := 5) (N := 5) rfl (by omega) hm1.2
    have e1 : m_cellar tp 10 99 (x 2) z = m_perh tp true (10 + v_) 99 (x 2) (q_next tp z) := cellar_t hm1 hve (by omega)
    rw [e1]
    refine kb_nat (y := nI v_) hve ?_
    refine lv_istore_n (lv' := [(1, .int ((nI v_))), (0, .ref (t.2.1 1))]) hx hb dX2_storm_6 rfl hl (by decide) rfl (fun ls hl => ?_)
    refine lv_aload_n hx hb dX2_storm_7 rfl (lv_at hl 1 rfl) ?_
    refine rg_told S hK hP dX2_storm_8 ?_
    refine cr_list S hK hP dX2_storm_11 ?_
    refine lv_iload_n hx hb dX2_storm_14 rfl (lv_at hl 0 rfl) ?_
    refine lv_aload_n hx hb dX2_storm_15 rfl (lv_at hl 1 rfl) ?_
    refine lv_iconst (v := 0) hx hb dX2_storm_16 (by decide) ?_
    refine lv_bipush (v := 99) hx hb dX2_storm_17 (by decide) ?_
    refine rc_number S hK hP (hE.keep hA hS) hA hS (rm_ok (Nat.le_of_ble_eq_true rfl)) hl.1 (tp) ((q_next tp (q_next tp z))) hpi.next.next ((htz.r hx_3).z rfl) hd_3 (Nat.le_of_ble_eq_true rfl) dX2_storm_19 (fun ho_19 x_19 H locs hx_19 hd_19 h2_19 hP hS => ?_) (fun ho_19 x_19 H locs hx_19 hf_19 hP hS => ?_)
    · skip
      rw [show x_3 2 = x 2 from h2_3] at ho_19 hd_19 h2_19
      obtain ⟨hm2, he2⟩ := num_ok ho_19
      rw [he2] at ho_19 hd_19 h2_19
      have e2 : m_perh tp true (10 + v_) 99 (x 2) (q_next tp z) = (true, upd (x 2) (10 + v_) ((q_next tp (q_next tp z)) 9 7), q_next tp (q_next tp (q_next tp z))) := if_pos hm2
      refine ck_stl4 S hK hP hS (fun _ h => h) (v_) (by omega) rfl dX2_storm_22 (fun H locs hP hS => ?_)
      rw [e2]
      exact kp_vret (o := (true, upd (x 2) (10 + v_) ((q_next tp (q_next tp z)) 9 7), q_next tp (q_next tp (q_next tp z)))) S hr hlk hS ho_19 (hx_3.tr hx_19).u2 hd_19 (by show upd (x_19 2) _ _ = _; rw [show x_19 2 = x 2 from h2_19]) hP dX2_storm_23
    · skip
      rw [show x_3 2 = x 2 from h2_3] at ho_19 hf_19
      have hb := perh_num (pl := 10 + v_) ho_19
      exact kp_out (o := m_perh tp true (10 + v_) 99 (x 2) (q_next tp z)) hin hlk hS hb.1 (hx_3.tr hx_19) (hf_19.trans hb.2.symm) hP
  · skip
    have hb := cellar_b (pl := 10) (w := 99) (by decide) ho_3
    exact kp_out (o := (m_cellar tp 10 99 (x 2) z)) hin hlk hS hb.1 hx_3 (hf_3.trans hb.2.symm) hP
set_option maxHeartbeats 4000000 in
set_option maxRecDepth 100000 in
theorem k2_frost (l : Launch) (t : CT) (r : Rw) (x : Nat → Rw) (κ : Nat × Nat × Nat) (hA : ∀ q, cA t q → κ.2.2 ≤ q) (tp : Nat) (z : Nat → Rw) (hpi : PI tp z) (htz : tpe z x) (hd : RD tp z (x 10)) : MetX l yX2_frost (ws_ yX2_frost cX2_frost 2 none) (rmF 9) (va_Pc [.ref (t.2.1 1)] (fun U => cK t U ∧ cX t r x U.heap ∧ kS κ U U.heap)) (kP t r x tp (m_cellar tp 4 9 (x 2) z) none) 0 0 (cA t) := by
  refine kk_startX (by decide) (Nat.le_of_ble_eq_true rfl) ?_
  intro p e s m below meth c S hr hlk hin hB ls hl
  obtain ⟨hK, hP⟩ := hB
  have hx := S.1
  have hb := S.2.1
  have hown : s.vm.findClass RX2 = some m.cls := S.2.2.2.1
  have hts := S.2.2.2.2
  have hS : va_S (cA t) s.heap s.heap [] := va_S.rf
  have hl : lv_has ls 2 [(0, .ref (t.2.1 1))] := hl
  obtain ⟨hP, hE⟩ := hP
  have hu0 := hd.1
  refine lv_aload_n hx hb dX2_frost_0 rfl (lv_at hl 0 rfl) ?_
  refine lv_iconst (v := 0) hx hb dX2_frost_1 (by decide) ?_
  refine lv_iconst (v := 5) hx hb dX2_frost_2 (by decide) ?_
  refine rc_behind S hK hP (hE.keep hA hS) hA hS (rm_ok (Nat.le_of_ble_eq_true rfl)) hl.1 (tp) (z) hpi hu0 htz hd.2.1 (by decide) (Nat.le_of_ble_eq_true rfl) dX2_frost_3 (fun ho_3 x_3 H locs hx_3 hd_3 h2_3 hP hS => ?_) (fun ho_3 x_3 H locs hx_3 hf_3 hP hS => ?_)
  · skip
    obtain ⟨hm1, he1⟩ := num_ok ho_3
    rw [he1] at ho_3 hd_3 h2_3
    obtain ⟨v_, hv_, hve⟩ := nat_of_le (n := 5) (N := 5) rfl (by omega) hm1.2
    have e1 : m_cellar tp 4 9 (x 2) z = m_perh tp true (4 + v_) 9 (x 2) (q_next tp z) := cellar_t hm1 hve (by omega)
    rw [e1]
    refine kb_nat (y := nI v_) hve ?_
    refine lv_istore_n (lv' := [(1, .int ((nI v_))), (0, .ref (t.2.1 1))]) hx hb dX2_frost_6 rfl hl (by decide) rfl (fun ls hl => ?_)
    refine lv_aload_n hx hb dX2_frost_7 rfl (lv_at hl 1 rfl) ?_
    refine rg_told S hK hP dX2_frost_8 ?_
    refine cr_frost S hK hP dX2_frost_11 ?_
    refine lv_iload_n hx hb dX2_frost_14 rfl (lv_at hl 0 rfl) ?_
    refine lv_aload_n hx hb dX2_frost_15 rfl (lv_at hl 1 rfl) ?_
    refine lv_iconst (v := 0) hx hb dX2_frost_16 (by decide) ?_
    refine lv_bipush (v := 9) hx hb dX2_frost_17 (by decide) ?_
    refine rc_number S hK hP (hE.keep hA hS) hA hS (rm_ok (Nat.le_of_ble_eq_true rfl)) hl.1 (tp) ((q_next tp (q_next tp z))) hpi.next.next ((htz.r hx_3).z rfl) hd_3 (Nat.le_of_ble_eq_true rfl) dX2_frost_19 (fun ho_19 x_19 H locs hx_19 hd_19 h2_19 hP hS => ?_) (fun ho_19 x_19 H locs hx_19 hf_19 hP hS => ?_)
    · skip
      rw [show x_3 2 = x 2 from h2_3] at ho_19 hd_19 h2_19
      obtain ⟨hm2, he2⟩ := num_ok ho_19
      rw [he2] at ho_19 hd_19 h2_19
      have e2 : m_perh tp true (4 + v_) 9 (x 2) (q_next tp z) = (true, upd (x 2) (4 + v_) ((q_next tp (q_next tp z)) 9 7), q_next tp (q_next tp (q_next tp z))) := if_pos hm2
      refine ck_stf4 S hK hP hS (fun _ h => h) (v_) (by omega) rfl dX2_frost_22 (fun H locs hP hS => ?_)
      rw [e2]
      exact kp_vret (o := (true, upd (x 2) (4 + v_) ((q_next tp (q_next tp z)) 9 7), q_next tp (q_next tp (q_next tp z)))) S hr hlk hS ho_19 (hx_3.tr hx_19).u2 hd_19 (by show upd (x_19 2) _ _ = _; rw [show x_19 2 = x 2 from h2_19]) hP dX2_frost_23
    · skip
      rw [show x_3 2 = x 2 from h2_3] at ho_19 hf_19
      have hb := perh_num (pl := 4 + v_) ho_19
      exact kp_out (o := m_perh tp true (4 + v_) 9 (x 2) (q_next tp z)) hin hlk hS hb.1 (hx_3.tr hx_19) (hf_19.trans hb.2.symm) hP
  · skip
    have hb := cellar_b (pl := 4) (w := 9) (by decide) ho_3
    exact kp_out (o := (m_cellar tp 4 9 (x 2) z)) hin hlk hS hb.1 hx_3 (hf_3.trans hb.2.symm) hP
section CC
variable {p : Program} {l : Launch} {e : Env} {R : Room} {s : State} {m : MethodId} {args : Array Value} {below : List Frame} {meth : Method} {c : Code} {H H0 : Heap} {locs : List Loc} {cells slots : Nat} {Q : State → Prop}
variable {cc : ByteArray} {pc nL : Nat} {ls : Array Slot} {rest : List Value} {t : CT} {r : Rw} {x : Nat → Rw}
theorem rc_perhaps {κ : Nat × Nat × Nat} (S : CallFix p m c cc nL s args lw_all RX2) (hK : cK t s) (hP : cX t r x H) (hE : kS κ s H) (hA : ∀ q, cA t q → κ.2.2 ≤ q) (hS : va_S (cA t) H0 H locs) (hR : kRm R 10 cells slots) (hsz : ls.size = nL) (key : Nat) (what : Nat) {most : Int32} (tp : Nat) (z : Nat → Rw) (b : Nat) (hpi : PI tp z) (htz : tpe z x) (hd : RD tp z (x 10)) (hV : pV b (x 2)) (h1 : 1 ≤ pN (x 2)) (hk : key < 13) (hw : what < 7) (hm : most ≤ 999) {i0 : Int32} (e0 : i0 = nI key) {i1 : Int32} (e1 : i1 = nI what) (hrest : (rest.map fun v => v.category).sum ≤ 8) (hdg : decode cc pc = .ok (.invokevirtual 106, 3)) (kr : OKs tp (m_perh tp (decide (kw tp z key)) (16 + 7 * (pN (x 2) - 1) + what) most (x 2) z) → ∀ (x' : Nat → Rw) (H1 : Heap) (locs1 : List Loc), xR x x' → RD tp (m_perh tp (decide (kw tp z key)) (16 + 7 * (pN (x 2) - 1) + what) most (x 2) z).2.2 (x' 10) → x' 2 = (m_perh tp (decide (kw tp z key)) (16 + 7 * (pN (x 2) - 1) + what) most (x 2) z).2.1 → cX t r x' H1 → va_S (cA t) H0 H1 locs1 → W p l e R s m args below meth c H1 locs1 cells slots Q (F0 m (pc + 3) ls (rest))) (kt : ¬ OKs tp (m_perh tp (decide (kw tp z key)) (16 + 7 * (pN (x 2) - 1) + what) most (x 2) z) → ∀ (x' : Nat → Rw) (H1 : Heap) (locs1 : List Loc), xR x x' → x' 10 2 = m_fault (m_perh tp (decide (kw tp z key)) (16 + 7 * (pN (x 2) - 1) + what) most (x 2) z) → cX t r x' H1 → va_S (cA t) H0 H1 locs1 → WT p l e R s m args below meth c H1 locs1 cells slots Q (F0 m pc ls rest) (t.2.1 3)) : W p l e R s m args below meth c H locs cells slots Q (F0 m pc ls (.int most :: .int i1 :: .int i0 :: .ref (t.2.1 1) :: rest)) := by
  subst e0
  subst e1
  exact kk_P (W.runX (As := [.int (nI key), .int (nI what), .int most]) (rest := rest) (maxL := 4) S (k2_perhaps l t r x κ hA key what most tp z b hpi htz hd hV h1 hk hw hm) rfl rfl hR.1 (by have := hR.2.1; show 8 + (4 + 11) + 38 * 9 ≤ R.locals; omega) (pay_in S.2.2.2.2 (lw_meth q1130)) (fun U hW => LocX.code (pay_in S.2.2.2.2 (lw_meth q1130) _ List.mem_cons_self #[] U hW)) (S.2.2.2.2 _ q106) ⟨by decide, by decide⟩ (show (parseMethodDescriptor yX2_perhaps.desc).map (fun d => d.parameters.length) = some 3 from by decide +kernel) (S.2.2.2.2 _ q1127) (S.2.2.2.2 _ q1129) (S.2.2.2.2 _ qs51) ⟨sR_blind, c_recvR hK hP, sR_pre hK hP hE⟩ rfl hsz rfl (lv_room hrest) hdg ⟨hR.2.2.1, hR.2.2.2⟩) hS (fun _ h => h) kr kt
theorem rc_storm {κ : Nat × Nat × Nat} (S : CallFix p m c cc nL s args lw_all RX2) (hK : cK t s) (hP : cX t r x H) (hE : kS κ s H) (hA : ∀ q, cA t q → κ.2.2 ≤ q) (hS : va_S (cA t) H0 H locs) (hR : kRm R 10 cells slots) (hsz : ls.size = nL) (tp : Nat) (z : Nat → Rw) (hpi : PI tp z) (htz : tpe z x) (hd : RD tp z (x 10)) (hrest : (rest.map fun v => v.category).sum ≤ 8) (hdg : decode cc pc = .ok (.invokevirtual 117, 3)) (kr : OKs tp (m_cellar tp 10 99 (x 2) z) → ∀ (x' : Nat → Rw) (H1 : Heap) (locs1 : List Loc), xR x x' → RD tp (m_cellar tp 10 99 (x 2) z).2.2 (x' 10) → x' 2 = (m_cellar tp 10 99 (x 2) z).2.1 → cX t r x' H1 → va_S (cA t) H0 H1 locs1 → W p l e R s m args below meth c H1 locs1 cells slots Q (F0 m (pc + 3) ls (rest))) (kt : ¬ OKs tp (m_cellar tp 10 99 (x 2) z) → ∀ (x' : Nat → Rw) (H1 : Heap) (locs1 : List Loc), xR x x' → x' 10 2 = m_fault (m_cellar tp 10 99 (x 2) z) → cX t r x' H1 → va_S (cA t) H0 H1 locs1 → WT p l e R s m args below meth c H1 locs1 cells slots Q (F0 m pc ls rest) (t.2.1 3)) : W p l e R s m args below meth c H locs cells slots Q (F0 m pc ls (.ref (t.2.1 1) :: rest)) := by
  exact kk_P (W.runX (As := []) (rest := rest) (maxL := 2) S (k2_storm l t r x κ hA tp z hpi htz hd) rfl rfl hR.1 (by have := hR.2.1; show 8 + (2 + 11) + 38 * 9 ≤ R.locals; omega) (pay_in S.2.2.2.2 (lw_meth q1105)) (fun U hW => LocX.code (pay_in S.2.2.2.2 (lw_meth q1105) _ List.mem_cons_self #[] U hW)) (S.2.2.2.2 _ q106) ⟨by decide, by decide⟩ (show (parseMethodDescriptor yX2_storm.desc).map (fun d => d.parameters.length) = some 0 from by decide +kernel) (S.2.2.2.2 _ q1102) (S.2.2.2.2 _ q1104) (S.2.2.2.2 _ qs45) ⟨sR_blind, c_recvR hK hP, sR_pre hK hP hE⟩ rfl hsz rfl (lv_room hrest) hdg ⟨hR.2.2.1, hR.2.2.2⟩) hS (fun _ h => h) kr kt
theorem rc_frost {κ : Nat × Nat × Nat} (S : CallFix p m c cc nL s args lw_all RX2) (hK : cK t s) (hP : cX t r x H) (hE : kS κ s H) (hA : ∀ q, cA t q → κ.2.2 ≤ q) (hS : va_S (cA t) H0 H locs) (hR : kRm R 10 cells slots) (hsz : ls.size = nL) (tp : Nat) (z : Nat → Rw) (hpi : PI tp z) (htz : tpe z x) (hd : RD tp z (x 10)) (hrest : (rest.map fun v => v.category).sum ≤ 8) (hdg : decode cc pc = .ok (.invokevirtual 120, 3)) (kr : OKs tp (m_cellar tp 4 9 (x 2) z) → ∀ (x' : Nat → Rw) (H1 : Heap) (locs1 : List Loc), xR x x' → RD tp (m_cellar tp 4 9 (x 2) z).2.2 (x' 10) → x' 2 = (m_cellar tp 4 9 (x 2) z).2.1 → cX t r x' H1 → va_S (cA t) H0 H1 locs1 → W p l e R s m args below meth c H1 locs1 cells slots Q (F0 m (pc + 3) ls (rest))) (kt : ¬ OKs tp (m_cellar tp 4 9 (x 2) z) → ∀ (x' : Nat → Rw) (H1 : Heap) (locs1 : List Loc), xR x x' → x' 10 2 = m_fault (m_cellar tp 4 9 (x 2) z) → cX t r x' H1 → va_S (cA t) H0 H1 locs1 → WT p l e R s m args below meth c H1 locs1 cells slots Q (F0 m pc ls rest) (t.2.1 3)) : W p l e R s m args below meth c H locs cells slots Q (F0 m pc ls (.ref (t.2.1 1) :: rest)) := by
  exact kk_P (W.runX (As := []) (rest := rest) (maxL := 2) S (k2_frost l t r x κ hA tp z hpi htz hd) rfl rfl hR.1 (by have := hR.2.1; show 8 + (2 + 11) + 38 * 9 ≤ R.locals; omega) (pay_in S.2.2.2.2 (lw_meth q1117)) (fun U hW => LocX.code (pay_in S.2.2.2.2 (lw_meth q1117) _ List.mem_cons_self #[] U hW)) (S.2.2.2.2 _ q106) ⟨by decide, by decide⟩ (show (parseMethodDescriptor yX2_frost.desc).map (fun d => d.parameters.length) = some 0 from by decide +kernel) (S.2.2.2.2 _ q1114) (S.2.2.2.2 _ q1116) (S.2.2.2.2 _ qs48) ⟨sR_blind, c_recvR hK hP, sR_pre hK hP hE⟩ rfl hsz rfl (lv_room hrest) hdg ⟨hR.2.2.1, hR.2.2.2⟩) hS (fun _ h => h) kr kt
end CC

theorem perh_num2 {tp pl : Nat} {w : Int32} {r r' : Rw} {z : Nat → Rw} (h : ¬ OKs tp (s_num tp 0 w r' (q_next tp z))) : ¬ OKs tp (m_perh tp true pl w r z) ∧ m_fault (m_perh tp true pl w r z) = m_fault (s_num tp 0 w r' (q_next tp z)) := by
  show ¬ OKs tp (if m_num (q_next tp z) 0 w then _ else _) ∧ m_fault (if m_num (q_next tp z) 0 w then _ else _) = _
  unfold s_num at h ⊢
  by_cases hm : m_num (q_next tp z) 0 w
  · rw [if_pos hm] at h
    rw [if_pos hm, if_pos hm]
    exact ⟨fun q => h q, fault_t.trans fault_t.symm⟩
  · rw [if_neg hm, if_neg hm]
    exact ⟨fun q => absurd q.1 Bool.false_ne_true, fault_f.trans fault_f.symm⟩
theorem perh_5 {tp : Nat} {q : Bool} {pl : Nat} {w : Int32} {r : Rw} {z : Nat → Rw} : (m_perh tp q pl w r z).2.2 5 = z 5 := (KX_perh (KX.rf (x := z))).1 5 (by decide)
theorem perh_pN {tp : Nat} {q : Bool} {pl : Nat} {w : Int32} {r : Rw} {z : Nat → Rw} (h : pl ≠ 0) : pN (m_perh tp q pl w r z).2.1 = pN r := by
  unfold m_perh
  split
  · rfl
  · split
    · show pN (upd r pl _) = pN r
      unfold pN
      rw [up_n (Ne.symm h)]
    · rfl
theorem comes_pN {b : Nat} {r : Rw} (hV : pV b r) (h : pN r < 8) (i c : Int32) : pN (p_comes r i c) = pN r + 1 := by
  have e : p_comes r i c 0 = nI (pN r + 1) := by rw [show p_comes r i c 0 = r 0 + 1 from up_s, hV.n.1, nI_1]
  show (p_comes r i c 0).toNatClampNeg = _
  rw [e, nI_clamp (by omega)]
set_option maxHeartbeats 4000000 in
set_option maxRecDepth 100000 in
theorem k2_cask (l : Launch) (t : CT) (r : Rw) (x : Nat → Rw) (κ : Nat × Nat × Nat) (hA : ∀ q, cA t q → κ.2.2 ≤ q) (k : Nat) (tp : Nat) (z : Nat → Rw) (b : Nat) (hpi : PI tp z) (htz : tpe z x) (hd : RD tp z (x 10)) (hV : pV b (x 2)) (hk7 : k < 7) : MetX l yX2_cask (ws_ yX2_cask cX2_cask 2 none) (rmF 10) (va_Pc [.ref (t.2.1 1), .int (nI k)] (fun U => cK t U ∧ cX t r x U.heap ∧ kS κ U U.heap)) (kP t r x tp (m_cask tp (nI k) (x 2) z) none) 0 0 (cA t) := by
  refine kk_startX (by decide) (Nat.le_of_ble_eq_true rfl) ?_
  intro p e s m below meth c S hr hlk hin hB ls hl
  obtain ⟨hK, hP⟩ := hB
  have hx := S.1
  have hb := S.2.1
  have hown : s.vm.findClass RX2 = some m.cls := S.2.2.2.1
  have hts := S.2.2.2.2
  have hS : va_S (cA t) s.heap s.heap [] := va_S.rf
  have hl : lv_has ls 2 [(0, .ref (t.2.1 1)), (1, .int ((nI k)))] := hl
  obtain ⟨hP, hE⟩ := hP
  have hn := hV.n.1
  have hn8 := hV.n.2
  have hu0 := hd.1
  have ht1 := TI.next hpi
  refine lv_aload_n hx hb dX2_cask_0 rfl (lv_at hl 0 rfl) ?_
  refine lv_aload_n hx hb dX2_cask_1 rfl (lv_at hl 0 rfl) ?_
  refine rg_told S hK hP dX2_cask_2 ?_
  refine cr_casks S hK hP dX2_cask_5 ?_
  refine lv_bipush (v := 8) hx hb dX2_cask_8 (by decide) ?_
  refine kb_ge_n (tgt := 17) (a := (pN (x 2))) (b := 8) S hn rfl (by omega) (by omega) dX2_cask_10 (by decide) (fun c_10 => ?_) (fun c_10 => ?_)
  · skip
    refine lv_iconst (v := 0) hx hb dX2_cask_17 (by decide) ?_
    refine rc_need0 S hK hP hS (rm_ok (Nat.le_of_ble_eq_true rfl)) hl.1 (Nat.le_of_ble_eq_true rfl) dX2_cask_18 (fun H locs hP hS => ?_)
    rw [show m_cask tp (nI k) (x 2) z = (false, x 2, failx z) from if_pos (by omega)]
    exact kp_out (o := (false, x 2, failx z)) hin hlk hS (fun q => absurd q.1 Bool.false_ne_true) (xR.rf x) hd.2.2.1 hP
  · skip
    refine lv_iconst (v := 1) hx hb dX2_cask_13 (by decide) ?_
    refine lv_goto (tgt := 18) hx hb dX2_cask_14 (by decide) ?_
    refine rc_need1 S hK hP hS (rm_ok (Nat.le_of_ble_eq_true rfl)) hl.1 (Nat.le_of_ble_eq_true rfl) dX2_cask_18 (fun H locs hP hS => ?_)
    refine lv_aload_n hx hb dX2_cask_21 rfl (lv_at hl 0 rfl) ?_
    refine rc_next S hK hP (hE.keep hA hS) hA hS (rm_ok (Nat.le_of_ble_eq_true rfl)) hl.1 (tp) (z) hpi hu0 htz hd.2.1 (Nat.le_of_ble_eq_true rfl) dX2_cask_22 (fun ho_22 x_22 H locs hx_22 hd_22 h2_22 hP hS => ?_) (fun ho_22 x_22 H locs hx_22 hf_22 hP hS => ?_)
    · skip
      refine lv_aload_n hx hb dX2_cask_25 rfl (lv_at hl 0 rfl) ?_
      refine rg_told S hK hP dX2_cask_26 ?_
      refine lv_iload_n hx hb dX2_cask_29 rfl (lv_at hl 1 rfl) ?_
      have cut_52 : ∀ (s1 : Ps) (X : Nat → Rw) (H : Heap) (locs : List Loc) (ls : Array Slot), (m_c1 tp (pN (x 2)) (p_comes (x 2) (nI k) 0) (q_next tp z) = s1) → (OKs tp s1) → (pV b s1.2.1) → (pN s1.2.1 = (pN (x 2)) + 1) → (xR x X) → (RD tp s1.2.2 (X 10)) → (X 2 = s1.2.1) → cX t (r) (X) H → va_S (cA t) s.heap H locs → lv_has ls 2 [(0, .ref (t.2.1 1)), (1, .int ((nI k)))] → W p l e (rmF 10) s m ([.ref (t.2.1 1), .int (nI k)] : List Value).toArray below meth c H locs 0 0 (MQX below (kP t r x tp (m_cask tp (nI k) (x 2) z) none) ([.ref (t.2.1 1), .int (nI k)] : List Value).toArray s 0 0 (cA t)) (F0 m 52 ls []) := by
        intro s1 X H locs ls e_s1 hk1 hVs_s1 hN_s1 hxX hdX h2X hP hS hl
        have hT_s1 : TI tp s1.2.2 := by rw [← e_s1]; exact TI_perh ht1
        have h5_s1 : s1.2.2 5 = z 5 := by rw [← e_s1]; exact perh_5
        refine lv_aload_n hx hb dX2_cask_52 rfl (lv_at hl 0 rfl) ?_
        refine lv_bipush (v := 10) hx hb dX2_cask_53 (by decide) ?_
        refine lv_iconst (v := 2) hx hb dX2_cask_55 (by decide) ?_
        refine lv_sipush (v := 999) hx hb dX2_cask_56 (by decide) ?_
        refine rc_perhaps S hK hP (hE.keep hA hS) hA hS (rm_ok (Nat.le_of_ble_eq_true rfl)) hl.1 (10) (2) (tp) (s1.2.2) (b) hT_s1.1 ((htz.r hxX).z h5_s1) hdX (by rw [h2X]; exact hVs_s1) (by rw [h2X, hN_s1]; omega) (by decide) (by decide) (by decide) rfl rfl (Nat.le_of_ble_eq_true rfl) dX2_cask_59 (fun ho_59 x_59 H locs hx_59 hd_59 h2_59 hP hS => ?_) (fun ho_59 x_59 H locs hx_59 hf_59 hP hS => ?_)
        · skip
          have e_59 : m_perh tp (decide (kw tp s1.2.2 10)) (16 + 7 * (pN (X 2) - 1) + 2) 999 (X 2) s1.2.2 = m_c2 tp (pN (x 2)) s1.2.1 s1.2.2 := by rw [h2X, hN_s1, Nat.add_sub_cancel]; exact m_c2_kw hT_s1
          rw [e_59] at ho_59 hd_59 h2_59
          obtain ⟨s2, e_s2⟩ : ∃ q, m_c2 tp (pN (x 2)) s1.2.1 s1.2.2 = q := ⟨_, rfl⟩
          rw [e_s2] at ho_59 hd_59 h2_59
          have hT_s2 : TI tp s2.2.2 := by rw [← e_s2]; exact TI_perh hT_s1
          have h5_s2 : s2.2.2 5 = z 5 := by rw [← e_s2]; exact perh_5.trans h5_s1
          have hVs_s2 : pV b s2.2.1 := by rw [← e_s2]; exact pV_perh hVs_s1 (fun _ _ => pV_free hVs_s1 (by omega))
          have hN_s2 : pN s2.2.1 = (pN (x 2)) + 1 := by rw [← e_s2]; exact (perh_pN (by omega)).trans hN_s1
          refine lv_aload_n hx hb dX2_cask_62 rfl (lv_at hl 0 rfl) ?_
          refine lv_bipush (v := 11) hx hb dX2_cask_63 (by decide) ?_
          refine lv_iconst (v := 3) hx hb dX2_cask_65 (by decide) ?_
          refine lv_bipush (v := 11) hx hb dX2_cask_66 (by decide) ?_
          refine rc_perhaps S hK hP (hE.keep hA hS) hA hS (rm_ok (Nat.le_of_ble_eq_true rfl)) hl.1 (11) (3) (tp) (s2.2.2) (b) hT_s2.1 ((htz.r (hxX.tr hx_59)).z h5_s2) hd_59 (by rw [h2_59]; exact hVs_s2) (by rw [h2_59, hN_s2]; omega) (by decide) (by decide) (by decide) rfl rfl (Nat.le_of_ble_eq_true rfl) dX2_cask_68 (fun ho_68 x_68 H locs hx_68 hd_68 h2_68 hP hS => ?_) (fun ho_68 x_68 H locs hx_68 hf_68 hP hS => ?_)
          · skip
            have e_68 : m_perh tp (decide (kw tp s2.2.2 11)) (16 + 7 * (pN (x_59 2) - 1) + 3) 11 (x_59 2) s2.2.2 = m_c3 tp (pN (x 2)) s2.2.1 s2.2.2 := by rw [h2_59, hN_s2, Nat.add_sub_cancel]; exact m_c3_kw hT_s2
            rw [e_68] at ho_68 hd_68 h2_68
            obtain ⟨s3, e_s3⟩ : ∃ q, m_c3 tp (pN (x 2)) s2.2.1 s2.2.2 = q := ⟨_, rfl⟩
            rw [e_s3] at ho_68 hd_68 h2_68
            have hT_s3 : TI tp s3.2.2 := by rw [← e_s3]; exact TI_perh hT_s2
            have h5_s3 : s3.2.2 5 = z 5 := by rw [← e_s3]; exact perh_5.trans h5_s2
            have hVs_s3 : pV b s3.2.1 := by rw [← e_s3]; exact pV_perh hVs_s2 (fun _ _ => pV_free hVs_s2 (by omega))
            have hN_s3 : pN s3.2.1 = (pN (x 2)) + 1 := by rw [← e_s3]; exact (perh_pN (by omega)).trans hN_s2
            refine lv_aload_n hx hb dX2_cask_71 rfl (lv_at hl 0 rfl) ?_
            refine lv_bipush (v := 12) hx hb dX2_cask_72 (by decide) ?_
            refine lv_iconst (v := 4) hx hb dX2_cask_74 (by decide) ?_
            refine lv_sipush (v := 999) hx hb dX2_cask_75 (by decide) ?_
            refine rc_perhaps S hK hP (hE.keep hA hS) hA hS (rm_ok (Nat.le_of_ble_eq_true rfl)) hl.1 (12) (4) (tp) (s3.2.2) (b) hT_s3.1 ((htz.r ((hxX.tr hx_59).tr hx_68)).z h5_s3) hd_68 (by rw [h2_68]; exact hVs_s3) (by rw [h2_68, hN_s3]; omega) (by decide) (by decide) (by decide) rfl rfl (Nat.le_of_ble_eq_true rfl) dX2_cask_78 (fun ho_78 x_78 H locs hx_78 hd_78 h2_78 hP hS => ?_) (fun ho_78 x_78 H locs hx_78 hf_78 hP hS => ?_)
            · skip
              have e_78 : m_perh tp (decide (kw tp s3.2.2 12)) (16 + 7 * (pN (x_68 2) - 1) + 4) 999 (x_68 2) s3.2.2 = m_c4 tp (pN (x 2)) s3.2.1 s3.2.2 := by rw [h2_68, hN_s3, Nat.add_sub_cancel]; exact m_c4_kw hT_s3
              rw [e_78] at ho_78 hd_78 h2_78
              obtain ⟨s4, e_s4⟩ : ∃ q, m_c4 tp (pN (x 2)) s3.2.1 s3.2.2 = q := ⟨_, rfl⟩
              rw [e_s4] at ho_78 hd_78 h2_78
              have hT_s4 : TI tp s4.2.2 := by rw [← e_s4]; exact TI_perh hT_s3
              have h5_s4 : s4.2.2 5 = z 5 := by rw [← e_s4]; exact perh_5.trans h5_s3
              have hVs_s4 : pV b s4.2.1 := by rw [← e_s4]; exact pV_perh hVs_s3 (fun _ _ => pV_free hVs_s3 (by omega))
              have hN_s4 : pN s4.2.1 = (pN (x 2)) + 1 := by rw [← e_s4]; exact (perh_pN (by omega)).trans hN_s3
              have e0 : m_cask tp (nI k) (x 2) z = m_chain tp (pN (x 2)) (p_comes (x 2) (nI k) 0) (q_next tp z) := if_neg (by omega)
              rw [e0, chain_4 e_s1 hk1.1 e_s2 ho_59.1 e_s3 ho_68.1, e_s4]
              exact kp_vret (o := s4) S hr hlk hS ho_78 (((hxX.tr hx_59).tr hx_68).tr hx_78) hd_78 h2_78 hP dX2_cask_81
            · skip
              have e_78 : m_perh tp (decide (kw tp s3.2.2 12)) (16 + 7 * (pN (x_68 2) - 1) + 4) 999 (x_68 2) s3.2.2 = m_c4 tp (pN (x 2)) s3.2.1 s3.2.2 := by rw [h2_68, hN_s3, Nat.add_sub_cancel]; exact m_c4_kw hT_s3
              rw [e_78] at ho_78 hf_78
              have e0 : m_cask tp (nI k) (x 2) z = m_chain tp (pN (x 2)) (p_comes (x 2) (nI k) 0) (q_next tp z) := if_neg (by omega)
              rw [e0, chain_4 e_s1 hk1.1 e_s2 ho_59.1 e_s3 ho_68.1]
              exact kp_out (o := m_c4 tp (pN (x 2)) s3.2.1 s3.2.2) hin hlk hS ho_78 (((hxX.tr hx_59).tr hx_68).tr hx_78) hf_78 hP
          · skip
            have e_68 : m_perh tp (decide (kw tp s2.2.2 11)) (16 + 7 * (pN (x_59 2) - 1) + 3) 11 (x_59 2) s2.2.2 = m_c3 tp (pN (x 2)) s2.2.1 s2.2.2 := by rw [h2_59, hN_s2, Nat.add_sub_cancel]; exact m_c3_kw hT_s2
            rw [e_68] at ho_68 hf_68
            have e0 : m_cask tp (nI k) (x 2) z = m_chain tp (pN (x 2)) (p_comes (x 2) (nI k) 0) (q_next tp z) := if_neg (by omega)
            rw [e0, chain_3 e_s1 hk1.1 e_s2 ho_59.1 hT_s2 ho_68]
            exact kp_out (o := m_c3 tp (pN (x 2)) s2.2.1 s2.2.2) hin hlk hS ho_68 ((hxX.tr hx_59).tr hx_68) hf_68 hP
        · skip
          have e_59 : m_perh tp (decide (kw tp s1.2.2 10)) (16 + 7 * (pN (X 2) - 1) + 2) 999 (X 2) s1.2.2 = m_c2 tp (pN (x 2)) s1.2.1 s1.2.2 := by rw [h2X, hN_s1, Nat.add_sub_cancel]; exact m_c2_kw hT_s1
          rw [e_59] at ho_59 hf_59
          have e0 : m_cask tp (nI k) (x 2) z = m_chain tp (pN (x 2)) (p_comes (x 2) (nI k) 0) (q_next tp z) := if_neg (by omega)
          rw [e0, chain_2 e_s1 hk1.1 hT_s1 ho_59]
          exact kp_out (o := m_c2 tp (pN (x 2)) s1.2.1 s1.2.2) hin hlk hS ho_59 (hxX.tr hx_59) hf_59 hP
      refine lv_aload_n hx hb dX2_cask_30 rfl (lv_at hl 0 rfl) ?_
      refine lv_bipush (v := 9) hx hb dX2_cask_31 (by decide) ?_
      refine rc_isWord S hK hP (rm_ok (Nat.le_of_ble_eq_true rfl)) hl.1 (9) (tp) ((q_next tp z)) hd_22 (by decide) rfl (Nat.le_of_ble_eq_true rfl) dX2_cask_33 ?_
      refine kb_ifeq (tgt := 48) S dX2_cask_36 (by decide) (fun c_36 => ?_) (fun c_36 => ?_)
      · skip
        refine lv_iconst (v := 0) hx hb dX2_cask_48 (by decide) ?_
        refine d2_add S hK hP hS (rm_ok (Nat.le_of_ble_eq_true rfl)) hl.1 (b) (by first | (rw [show x_42 2 = x 2 from h2_42]; exact hV) | (rw [show x_22 2 = x 2 from h2_22]; exact hV)) (by first | (rw [show x_42 2 = x 2 from h2_42]; omega) | (rw [show x_22 2 = x 2 from h2_22]; omega)) (Nat.le_of_ble_eq_true rfl) dX2_cask_49 (fun H locs hP hS => ?_)
        exact cut_52 (true, (p_comes (x 2) (nI k) 0), (q_next tp z)) _ _ _ ls ((m_c1_kw ht1).symm.trans (perh_f c_36)) (⟨rfl, hd_22.good⟩) (pV_comes (v := 0) hV (by omega) hk7 (by decide)) (comes_pN hV (by omega) _ _) (hx_22.u2) (hd_22) (by show p_comes (x_22 2) _ _ = _; rw [show x_22 2 = x 2 from h2_22]) hP hS (lv_sub hl [0, 1] rfl)
      · skip
        refine lv_aload_n hx hb dX2_cask_39 rfl (lv_at hl 0 rfl) ?_
        refine lv_iconst (v := 0) hx hb dX2_cask_40 (by decide) ?_
        refine lv_iconst (v := 5) hx hb dX2_cask_41 (by decide) ?_
        refine rc_behind S hK hP (hE.keep hA hS) hA hS (rm_ok (Nat.le_of_ble_eq_true rfl)) hl.1 (tp) ((q_next tp z)) hpi.next hd_22.1 ((htz.r hx_22).z rfl) hd_22.2.1 (by decide) (Nat.le_of_ble_eq_true rfl) dX2_cask_42 (fun ho_42 x_42 H locs hx_42 hd_42 h2_42 hP hS => ?_) (fun ho_42 x_42 H locs hx_42 hf_42 hP hS => ?_)
        · skip
          rw [show x_22 2 = x 2 from h2_22] at ho_42 hd_42 h2_42
          obtain ⟨hm1, he1⟩ := num_ok ho_42
          rw [he1] at ho_42 hd_42 h2_42
          have ec : m_c1 tp (pN (x 2)) (p_comes (x 2) (nI k) 0) (q_next tp z) = (true, upd (p_comes (x 2) (nI k) 0) (16 + 7 * (pN (x 2)) + 1) ((q_next tp (q_next tp z)) 9 7), q_next tp (q_next tp (q_next tp z))) := (m_c1_kw ht1).symm.trans ((perh_t c_36).trans (if_pos hm1))
          obtain ⟨v_, hv_, hve⟩ := nat_of_le (n := 5) (N := 5) rfl (by omega) hm1.2
          refine lv_goto (tgt := 49) hx hb dX2_cask_45 (by decide) ?_
          refine d2_add S hK hP hS (rm_ok (Nat.le_of_ble_eq_true rfl)) hl.1 (b) (by first | (rw [show x_42 2 = x 2 from h2_42]; exact hV) | (rw [show x_22 2 = x 2 from h2_22]; exact hV)) (by first | (rw [show x_42 2 = x 2 from h2_42]; omega) | (rw [show x_22 2 = x 2 from h2_22]; omega)) (Nat.le_of_ble_eq_true rfl) dX2_cask_49 (fun H locs hP hS => ?_)
          exact cut_52 (true, upd (p_comes (x 2) (nI k) 0) (16 + 7 * (pN (x 2)) + 1) ((q_next tp (q_next tp z)) 9 7), q_next tp (q_next tp (q_next tp z))) _ _ _ ls (ec) (ho_42) (by show pV b (upd _ _ _); rw [← comes_c, hve]; exact pV_comes hV (by omega) hk7 (by omega)) (by show pN (upd _ _ _) = _; rw [← comes_c]; exact comes_pN hV (by omega) _ _) ((hx_22.tr hx_42).u2) (hd_42) (by show p_comes (x_42 2) _ _ = upd _ _ _; rw [show x_42 2 = x 2 from h2_42]; exact comes_c _ _ _) hP hS (lv_sub hl [0, 1] rfl)
        · skip
          rw [show x_22 2 = x 2 from h2_22] at ho_42 hf_42
          have hb := perh_num2 (pl := 16 + 7 * (pN (x 2)) + 1) (r := (p_comes (x 2) (nI k) 0)) ho_42
          have e0 : m_cask tp (nI k) (x 2) z = m_chain tp (pN (x 2)) (p_comes (x 2) (nI k) 0) (q_next tp z) := if_neg (by omega)
          have e1 : m_c1 tp (pN (x 2)) (p_comes (x 2) (nI k) 0) (q_next tp z) = m_perh tp true (16 + 7 * (pN (x 2)) + 1) 5 (p_comes (x 2) (nI k) 0) (q_next tp z) := (m_c1_kw ht1).symm.trans (perh_t c_36)
          have e2 : m_chain tp (pN (x 2)) (p_comes (x 2) (nI k) 0) (q_next tp z) = m_perh tp true (16 + 7 * (pN (x 2)) + 1) 5 (p_comes (x 2) (nI k) 0) (q_next tp z) := (chain_1 ht1 (by rw [e1]; exact hb.1)).trans e1
          rw [e0, e2]
          exact kp_out (o := m_perh tp true (16 + 7 * (pN (x 2)) + 1) 5 (p_comes (x 2) (nI k) 0) (q_next tp z)) hin hlk hS hb.1 (hx_22.tr hx_42) (hf_42.trans hb.2.symm) hP
    · skip
      have hng : ¬ good tp (q_next tp z) := fun g => ho_22 ⟨rfl, g⟩
      have e0 : m_cask tp (nI k) (x 2) z = m_chain tp (pN (x 2)) (p_comes (x 2) (nI k) 0) (q_next tp z) := if_neg (by omega)
      have e1 : m_c1 tp (pN (x 2)) (p_comes (x 2) (nI k) 0) (q_next tp z) = (true, (p_comes (x 2) (nI k) 0), (q_next tp z)) := c1_bad hng ht1
      have e2 : m_chain tp (pN (x 2)) (p_comes (x 2) (nI k) 0) (q_next tp z) = (true, (p_comes (x 2) (nI k) 0), (q_next tp z)) := (chain_1 ht1 (by rw [e1]; exact fun q => hng q.2)).trans e1
      rw [e0, e2]
      exact kp_out (o := (true, (p_comes (x 2) (nI k) 0), (q_next tp z))) hin hlk hS (fun q => hng q.2) hx_22 (hf_22.trans (fault_t.trans fault_t.symm)) hP
section CC
variable {p : Program} {l : Launch} {e : Env} {R : Room} {s : State} {m : MethodId} {args : Array Value} {below : List Frame} {meth : Method} {c : Code} {H H0 : Heap} {locs : List Loc} {cells slots : Nat} {Q : State → Prop}
variable {cc : ByteArray} {pc nL : Nat} {ls : Array Slot} {rest : List Value} {t : CT} {r : Rw} {x : Nat → Rw}
theorem rc_cask {κ : Nat × Nat × Nat} (S : CallFix p m c cc nL s args lw_all RX2) (hK : cK t s) (hP : cX t r x H) (hE : kS κ s H) (hA : ∀ q, cA t q → κ.2.2 ≤ q) (hS : va_S (cA t) H0 H locs) (hR : kRm R 11 cells slots) (hsz : ls.size = nL) (k : Nat) (tp : Nat) (z : Nat → Rw) (b : Nat) (hpi : PI tp z) (htz : tpe z x) (hd : RD tp z (x 10)) (hV : pV b (x 2)) (hk7 : k < 7) {i0 : Int32} (e0 : i0 = nI k) (hrest : (rest.map fun v => v.category).sum ≤ 8) (hdg : decode cc pc = .ok (.invokevirtual 122, 3)) (kr : OKs tp (m_cask tp (nI k) (x 2) z) → ∀ (x' : Nat → Rw) (H1 : Heap) (locs1 : List Loc), xR x x' → RD tp (m_cask tp (nI k) (x 2) z).2.2 (x' 10) → x' 2 = (m_cask tp (nI k) (x 2) z).2.1 → cX t r x' H1 → va_S (cA t) H0 H1 locs1 → W p l e R s m args below meth c H1 locs1 cells slots Q (F0 m (pc + 3) ls (rest))) (kt : ¬ OKs tp (m_cask tp (nI k) (x 2) z) → ∀ (x' : Nat → Rw) (H1 : Heap) (locs1 : List Loc), xR x x' → x' 10 2 = m_fault (m_cask tp (nI k) (x 2) z) → cX t r x' H1 → va_S (cA t) H0 H1 locs1 → WT p l e R s m args below meth c H1 locs1 cells slots Q (F0 m pc ls rest) (t.2.1 3)) : W p l e R s m args below meth c H locs cells slots Q (F0 m pc ls (.int i0 :: .ref (t.2.1 1) :: rest)) := by
  subst e0
  exact kk_P (W.runX (As := [.int (nI k)]) (rest := rest) (maxL := 2) S (k2_cask l t r x κ hA k tp z b hpi htz hd hV hk7) rfl rfl hR.1 (by have := hR.2.1; show 8 + (2 + 11) + 38 * 10 ≤ R.locals; omega) (pay_in S.2.2.2.2 (lw_meth q1121)) (fun U hW => LocX.code (pay_in S.2.2.2.2 (lw_meth q1121) _ List.mem_cons_self #[] U hW)) (S.2.2.2.2 _ q106) ⟨by decide, by decide⟩ (show (parseMethodDescriptor yX2_cask.desc).map (fun d => d.parameters.length) = some 1 from by decide +kernel) (S.2.2.2.2 _ q1118) (S.2.2.2.2 _ q1120) (S.2.2.2.2 _ qs49) ⟨sR_blind, c_recvR hK hP, sR_pre hK hP hE⟩ rfl hsz rfl (lv_room hrest) hdg ⟨hR.2.2.1, hR.2.2.2⟩) hS (fun _ h => h) kr kt
end CC

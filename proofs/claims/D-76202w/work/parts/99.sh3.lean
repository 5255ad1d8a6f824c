set_option maxHeartbeats 4000000 in
set_option maxRecDepth 100000 in
theorem k0_fits (l : Launch) (t : CT) (r : Rw) (x : Nat → Rw) (y : Nat → Rw) (v : Int32) (a : Int32) (b : Nat) (hV : pV b r) (hb : b ≤ 99999) : Met l yX0_fits (wsW_ yX0_fits cX0_fits 4 (some .int) [(0, 11, 12, 49)]) (rmF 10) (va_Pc [.ref (t.2.1 0), .int v, .int a] (fun U => cK t U ∧ cX t r x U.heap ∧ cSh t y U.heap)) (kW (some (.int ((o_fits (mSv y) (x 9 2) r v a).1))) (fun H => ∃ x1, cJ (fx x (o_fits (mSv y) (x 9 2) r v a).2.2) x1 ∧ cX t ((o_fits (mSv y) (x 9 2) r v a).2.1) x1 H) (cA t)) 0 0 (cA t) := by
  refine kk_startW (by decide) (Nat.le_of_ble_eq_true rfl) ?_
  intro p e s m below meth c S hr hlk hts_ hB ls hl
  obtain ⟨hK, hP⟩ := hB
  have hx := S.1
  have hb := S.2.1
  have hown : s.vm.findClass RX0 = some m.cls := S.2.2.2.1
  have hts := S.2.2.2.2
  have hS : va_S (cA t) s.heap s.heap [] := va_S.rf
  have hl : lv_has ls 4 [(0, .ref (t.2.1 0)), (1, .int (v)), (2, .int (a))] := hl
  obtain ⟨hP, hQ⟩ := hP
  have hn := hV.n.1
  have hn8 := hV.n.2
  refine lv_aload_n hx hb dX0_fits_0 rfl (lv_at hl 0 rfl) ?_
  refine lv_aload_n hx hb dX0_fits_1 rfl (lv_at hl 0 rfl) ?_
  refine lv_iload_n hx hb dX0_fits_2 rfl (lv_at hl 1 rfl) ?_
  refine lv_iload_n hx hb dX0_fits_3 rfl (lv_at hl 2 rfl) ?_
  refine cc_rowFor S hK hP (hQ.keep hS) hS (rm_ok (Nat.le_of_ble_eq_true rfl)) hl.1 (b) hV (Nat.le_of_ble_eq_true rfl) dX0_fits_4 (fun ho_4 H locs hP hS => ?_) (fun j_4 ho_4 H locs hP hS => ?_)
  · skip
    have hz_ := ho_4
    obtain ⟨hv4, hak, q_, hq_⟩ := p_wf_none hz_
    obtain ⟨v_, hv_, rfl⟩ := nat_of_lt (n := 4) rfl (by omega) hv4
    have hcl_v_ := nI_clamp (n := v_) (by omega)
    obtain ⟨a_, ha_, rfl⟩ := nat_of_lt (n := pN r) hn (by omega) hak
    have hcl_a_ := nI_clamp (n := a_) (by omega)
    rw [hcl_v_] at hq_
    obtain ⟨g_, hg, hq2⟩ := hQ.at hv_ hq_
    refine kb_val (y := .ref g_) (by rw [hcl_v_, hg]; rfl) ?_
    refine lv_iload_n hx hb dX0_fits_7 rfl (lv_at hl 2 rfl) ?_
    refine cc_manyFits S hK hP (hQ.keep hS) hS (rm_ok (Nat.le_of_ble_eq_true rfl)) hl.1 (a_) (v_) (b) hv_ hg (by omega) hV (by omega) rfl (Nat.le_of_ble_eq_true rfl) dX0_fits_8 (fun f_2 H locs hP hS => ?_)
    have hpf : p_fits (mSv y) (x 9 2) r (nI v_) (nI a_) = (p_fit (p_fitP (fun u => y 8 (40 * v_ + u)) (y 7 v_).toNatClampNeg r a_) 101 (0, x 9 2)) := by unfold p_fits; rw [hcl_v_, hq_, hq2, hcl_a_]
    exact kk_iretW S hr hlk hS (by simp only [o_fits, hz_, oW, oK, fx]; exact ⟨_, (((cJ.rf _)).j9).j3, hP⟩) (by simp only [o_fits, hz_, oW, oK, hpf]) dX0_fits_11
  · skip
    refine cx_catch S hK hP hts_ (by decide) (by decide) ?_
    refine lv_astore_n (lv' := [(3, .ref (t.2.1 2)), (0, .ref (t.2.1 0)), (1, .int (v)), (2, .int (a))]) hx hb dX0_fits_12 rfl hl (by decide) rfl (fun ls hl => ?_)
    refine lv_aload_n hx hb dX0_fits_13 rfl (lv_at hl 1 rfl) ?_
    refine lv_aload_n hx hb dX0_fits_14 rfl (lv_at hl 0 rfl) ?_
    refine cgr_finding S hK hP dX0_fits_15 ?_
    refine cc_finding S hK hP hS (rm_ok (Nat.le_of_ble_eq_true rfl)) hl.1 (j_4) (p_wf_lt ho_4) rfl (Nat.le_of_ble_eq_true rfl) dX0_fits_18 (fun H locs hP hS => ?_)
    exact kk_iretW S hr hlk hS (by simp only [o_fits, ho_4, oW, oF, fx]; exact ⟨_, (((cJ.rf _)).j12).fnd j_4, hP⟩) (by rw [o_fits, ho_4]; rfl) dX0_fits_21
set_option maxHeartbeats 4000000 in
set_option maxRecDepth 100000 in
theorem k0_pealed (l : Launch) (t : CT) (r : Rw) (x : Nat → Rw) (y : Nat → Rw) (v : Int32) (a : Int32) (b : Nat) (hV : pV b r) (hb : b ≤ 99999) : Met l yX0_pealed (wsW_ yX0_pealed cX0_pealed 4 (some .int) [(0, 28, 29, 49)]) (rmF 10) (va_Pc [.ref (t.2.1 0), .int v, .int a] (fun U => cK t U ∧ cX t r x U.heap ∧ cSh t y U.heap)) (kW (some (.int ((o_pealed (mSv y) (x 9 2) r v a).1))) (fun H => ∃ x1, cJ (fx x (o_pealed (mSv y) (x 9 2) r v a).2.2) x1 ∧ cX t ((o_pealed (mSv y) (x 9 2) r v a).2.1) x1 H) (cA t)) 0 0 (cA t) := by
  refine kk_startW (by decide) (Nat.le_of_ble_eq_true rfl) ?_
  intro p e s m below meth c S hr hlk hts_ hB ls hl
  obtain ⟨hK, hP⟩ := hB
  have hx := S.1
  have hb := S.2.1
  have hown : s.vm.findClass RX0 = some m.cls := S.2.2.2.1
  have hts := S.2.2.2.2
  have hS : va_S (cA t) s.heap s.heap [] := va_S.rf
  have hl : lv_has ls 4 [(0, .ref (t.2.1 0)), (1, .int (v)), (2, .int (a))] := hl
  obtain ⟨hP, hQ⟩ := hP
  have hn := hV.n.1
  have hn8 := hV.n.2
  refine lv_aload_n hx hb dX0_pealed_0 rfl (lv_at hl 0 rfl) ?_
  refine lv_aload_n hx hb dX0_pealed_1 rfl (lv_at hl 0 rfl) ?_
  refine lv_aload_n hx hb dX0_pealed_2 rfl (lv_at hl 0 rfl) ?_
  refine lv_iload_n hx hb dX0_pealed_3 rfl (lv_at hl 1 rfl) ?_
  refine lv_iload_n hx hb dX0_pealed_4 rfl (lv_at hl 2 rfl) ?_
  refine cc_rowFor S hK hP (hQ.keep hS) hS (rm_ok (Nat.le_of_ble_eq_true rfl)) hl.1 (b) hV (Nat.le_of_ble_eq_true rfl) dX0_pealed_5 (fun ho_5 H locs hP hS => ?_) (fun j_5 ho_5 H locs hP hS => ?_)
  · skip
    have hz_ := ho_5
    obtain ⟨hv4, hak, q_, hq_⟩ := p_wf_none hz_
    obtain ⟨v_, hv_, rfl⟩ := nat_of_lt (n := 4) rfl (by omega) hv4
    have hcl_v_ := nI_clamp (n := v_) (by omega)
    obtain ⟨a_, ha_, rfl⟩ := nat_of_lt (n := pN r) hn (by omega) hak
    have hcl_a_ := nI_clamp (n := a_) (by omega)
    rw [hcl_v_] at hq_
    obtain ⟨g_, hg, hq2⟩ := hQ.at hv_ hq_
    refine kb_val (y := .ref g_) (by rw [hcl_v_, hg]; rfl) ?_
    refine lv_iload_n hx hb dX0_pealed_8 rfl (lv_at hl 2 rfl) ?_
    refine cc_manyFits S hK hP (hQ.keep hS) hS (rm_ok (Nat.le_of_ble_eq_true rfl)) hl.1 (a_) (v_) (b) hv_ hg (by omega) hV (by omega) rfl (Nat.le_of_ble_eq_true rfl) dX0_pealed_9 (fun f_2 H locs hP hS => ?_)
    have hpf : p_fits (mSv y) (x 9 2) r (nI v_) (nI a_) = (p_fit (p_fitP (fun u => y 8 (40 * v_ + u)) (y 7 v_).toNatClampNeg r a_) 101 (0, x 9 2)) := by unfold p_fits; rw [hcl_v_, hq_, hq2, hcl_a_]
    refine lv_if_le (tgt := 19) hx hb dX0_pealed_12 (by decide) (fun c_12 => ?_) (fun c_12 => ?_)
    · skip
      refine lv_iconst (v := 0) hx hb dX0_pealed_19 (by decide) ?_
      refine lv_iconst (v := 3) hx hb dX0_pealed_20 (by decide) ?_
      refine cc_need0 S hK hP hS (rm_ok (Nat.le_of_ble_eq_true rfl)) hl.1 (3) (by decide) rfl (Nat.le_of_ble_eq_true rfl) dX0_pealed_21 (fun H locs hP hS => ?_)
      refine cx_catch S hK hP hts_ (by decide) (by decide) ?_
      refine lv_astore_n (lv' := [(3, .ref (t.2.1 2)), (0, .ref (t.2.1 0)), (1, .int ((nI v_))), (2, .int ((nI a_)))]) hx hb dX0_pealed_29 rfl hl (by decide) rfl (fun ls hl => ?_)
      refine lv_aload_n hx hb dX0_pealed_30 rfl (lv_at hl 1 rfl) ?_
      refine lv_aload_n hx hb dX0_pealed_31 rfl (lv_at hl 0 rfl) ?_
      refine cgr_finding S hK hP dX0_pealed_32 ?_
      refine cc_finding S hK hP hS (rm_ok (Nat.le_of_ble_eq_true rfl)) hl.1 (3) (by first | decide | exact p_wf_lt ho_5) rfl (Nat.le_of_ble_eq_true rfl) dX0_pealed_35 (fun H locs hP hS => ?_)
      exact kk_iretW S hr hlk hS (by simp only [o_pealed, hz_, oW, hpf]; rw [if_neg (show ¬ 0 < (p_fit (p_fitP (fun u => y 8 (40 * v_ + u)) (y 7 v_).toNatClampNeg r a_) 101 (0, x 9 2)).1 from Int32.not_lt.mpr c_12)]; exact ⟨_, (((((cJ.rf _)).j9).j3).j12).fnd 3, hP⟩) (by simp only [o_pealed, hz_, oW, hpf]; rw [if_neg (show ¬ 0 < (p_fit (p_fitP (fun u => y 8 (40 * v_ + u)) (y 7 v_).toNatClampNeg r a_) 101 (0, x 9 2)).1 from Int32.not_lt.mpr c_12)]; rfl) dX0_pealed_38
    · skip
      refine lv_iconst (v := 1) hx hb dX0_pealed_15 (by decide) ?_
      refine lv_goto (tgt := 20) hx hb dX0_pealed_16 (by decide) ?_
      refine lv_iconst (v := 3) hx hb dX0_pealed_20 (by decide) ?_
      refine cc_need1 S hK hP hS (rm_ok (Nat.le_of_ble_eq_true rfl)) hl.1 (3) (by decide) rfl (Nat.le_of_ble_eq_true rfl) dX0_pealed_21 (fun H locs hP hS => ?_)
      refine lv_aload_n hx hb dX0_pealed_24 rfl (lv_at hl 0 rfl) ?_
      refine cg_firstFit S hK hP dX0_pealed_25 ?_
      exact kk_iretW S hr hlk hS (by simp only [o_pealed, hz_, oW, hpf]; rw [if_pos (show 0 < (p_fit (p_fitP (fun u => y 8 (40 * v_ + u)) (y 7 v_).toNatClampNeg r a_) 101 (0, x 9 2)).1 from Int32.not_le.mp c_12)]; exact ⟨_, (((cJ.rf _)).j9).j3, hP⟩) (by simp only [o_pealed, hz_, oW, hpf]; rw [if_pos (show 0 < (p_fit (p_fitP (fun u => y 8 (40 * v_ + u)) (y 7 v_).toNatClampNeg r a_) 101 (0, x 9 2)).1 from Int32.not_le.mp c_12)]; rfl) dX0_pealed_28
  · skip
    refine cx_catch S hK hP hts_ (by decide) (by decide) ?_
    refine lv_astore_n (lv' := [(3, .ref (t.2.1 2)), (0, .ref (t.2.1 0)), (1, .int (v)), (2, .int (a))]) hx hb dX0_pealed_29 rfl hl (by decide) rfl (fun ls hl => ?_)
    refine lv_aload_n hx hb dX0_pealed_30 rfl (lv_at hl 1 rfl) ?_
    refine lv_aload_n hx hb dX0_pealed_31 rfl (lv_at hl 0 rfl) ?_
    refine cgr_finding S hK hP dX0_pealed_32 ?_
    refine cc_finding S hK hP hS (rm_ok (Nat.le_of_ble_eq_true rfl)) hl.1 (j_5) (by first | decide | exact p_wf_lt ho_5) rfl (Nat.le_of_ble_eq_true rfl) dX0_pealed_35 (fun H locs hP hS => ?_)
    exact kk_iretW S hr hlk hS (by simp only [o_pealed, ho_5, oW, oF, fx]; exact ⟨_, (((cJ.rf _)).j12).fnd j_5, hP⟩) (by rw [o_pealed, ho_5]; rfl) dX0_pealed_38
section CC
variable {p : Program} {l : Launch} {e : Env} {R : Room} {s : State} {m : MethodId} {args : Array Value} {below : List Frame} {meth : Method} {c : Code} {H H0 : Heap} {locs : List Loc} {cells slots : Nat} {Q : State → Prop}
variable {cc : ByteArray} {pc nL : Nat} {ls : Array Slot} {rest : List Value} {t : CT} {r : Rw} {x : Nat → Rw}
end CC
set_option maxHeartbeats 4000000 in
set_option maxRecDepth 100000 in
theorem k0_wasSo (l : Launch) (t : CT) (r : Rw) (x : Nat → Rw) (y : Nat → Rw) (a : Nat) (k : Nat) (v : Nat) (b : Nat) (hv : v < 4) (hg : cG t v = some a) (hV : pV b r) (hb : b < 2 ^ 29) (hk : k < 8) : Met l yX0_wasSo (wsW_ yX0_wasSo cX0_wasSo 6 (some .boolean) [(11, 93, 107, 0), (107, 109, 107, 0)]) (rmF 8) (va_Pc [.ref (t.2.1 0), .ref a, .int (nI k)] (fun U => cK t U ∧ cX t r x U.heap ∧ cSh t y U.heap)) (kW (some (.int (b2i (p_ist (fun u => y 8 (40 * v + u)) (y 7 v).toNatClampNeg (16 + 7 * k + 2) r = true)))) (cX t (r) (va_up x 3 r)) (cA t)) 0 0 (cA t) := by
  refine kk_startW (by decide) (Nat.le_of_ble_eq_true rfl) ?_
  intro p e s m below meth c S hr hlk hts_ hB ls hl
  obtain ⟨hK, hP⟩ := hB
  have hx := S.1
  have hb := S.2.1
  have hown : s.vm.findClass RX0 = some m.cls := S.2.2.2.1
  have hts := S.2.2.2.2
  have hS : va_S (cA t) s.heap s.heap [] := va_S.rf
  have hl : lv_has ls 6 [(0, .ref (t.2.1 0)), (1, .ref a), (2, .int ((nI k)))] := hl
  obtain ⟨hP, hQ⟩ := hP
  obtain ⟨hn7, hn40⟩ := (hQ.row hv hg).len
  refine lv_aload_n hx hb dX0_wasSo_0 rfl (lv_at hl 0 rfl) ?_
  refine cg_aside S hK hP dX0_wasSo_1 ?_
  refine lv_aload_n hx hb dX0_wasSo_4 rfl (lv_at hl 0 rfl) ?_
  refine cg_d S hK hP dX0_wasSo_5 ?_
  refine cb_aside_d S hK hP hS (fun _ h => h) (rm_ok (Nat.le_of_ble_eq_true rfl)) hl.1 (Nat.le_of_ble_eq_true rfl) dX0_wasSo_8 (fun H locs hP hS => ?_)
  refine lv_iconst (v := 1) hx hb dX0_wasSo_11 (by decide) ?_
  refine lv_istore_n (lv' := [(3, .int (1)), (0, .ref (t.2.1 0)), (1, .ref a), (2, .int ((nI k)))]) hx hb dX0_wasSo_12 rfl hl (by decide) rfl (fun ls hl => ?_)
  refine lv_iconst (v := 0) hx hb dX0_wasSo_13 (by decide) ?_
  refine lv_istore (lv' := [(4, .int (0)), (3, .int (1)), (0, .ref (t.2.1 0)), (1, .ref a), (2, .int ((nI k)))]) hx hb dX0_wasSo_14 hl (by decide) rfl (fun ls hl => ?_)
  have lp_16 : ∀ (j k_ : Nat) (q : Bool) (r1 : Rw) (H : Heap) (locs : List Loc) (ls : Array Slot), k_ + j = (y 7 v).toNatClampNeg → ((q && p_tf (fun u => y 8 (40 * v + u)) (16 + 7 * k + 2) j k_ r1) = p_ist (fun u => y 8 (40 * v + u)) (y 7 v).toNatClampNeg (16 + 7 * k + 2) r) → (pV (b + k_) r1) → cX t (r1) ((va_up x 3 r)) H → va_S (cA t) s.heap H locs → lv_has ls 6 [(0, .ref (t.2.1 0)), (1, .ref a), (2, .int ((nI k))), (3, .int ((b2i (q = true)))), (4, .int ((nI k_)))] → W p l e (rmF 8) s m ([.ref (t.2.1 0), .ref a, .int (nI k)] : List Value).toArray below meth c H locs 0 0 (MQ below (kW (some (.int (b2i (p_ist (fun u => y 8 (40 * v + u)) (y 7 v).toNatClampNeg (16 + 7 * k + 2) r = true)))) (cX t (r) (va_up x 3 r)) (cA t)) ([.ref (t.2.1 0), .ref a, .int (nI k)] : List Value).toArray s 0 0 (cA t)) (F0 m 16 ls []) := by
    intro j
    induction j with
    | zero =>
      intro k_ q r1 H locs ls hkj he hV1 hP hS hl
      refine lv_iload_n hx hb dX0_wasSo_16 rfl (lv_at hl 3 rfl) ?_
      refine kb_ifeq (tgt := 90) S dX0_wasSo_17 (by decide) (fun c_17 => ?_) (fun c_17 => ?_)
      · skip
        refine lv_iload_n hx hb dX0_wasSo_90 rfl (lv_at hl 3 rfl) ?_
        refine lv_istore (lv' := [(4, .int ((b2i (q = true)))), (0, .ref (t.2.1 0)), (1, .ref a), (2, .int ((nI k))), (3, .int ((b2i (q = true))))]) hx hb dX0_wasSo_91 hl (by decide) rfl (fun ls hl => ?_)
        refine lv_aload_n hx hb dX0_wasSo_93 rfl (lv_at hl 1 rfl) ?_
        refine cg_d S hK hP dX0_wasSo_94 ?_
        refine lv_aload_n hx hb dX0_wasSo_97 rfl (lv_at hl 1 rfl) ?_
        refine cg_aside S hK hP dX0_wasSo_98 ?_
        refine cb_d_aside S hK hP hS (fun _ h => h) (rm_ok (Nat.le_of_ble_eq_true rfl)) hl.1 (Nat.le_of_ble_eq_true rfl) dX0_wasSo_101 (fun H locs hP hS => ?_)
        refine lv_iload hx hb dX0_wasSo_104 (lv_at hl 0 rfl) ?_
        exact kk_zretW S hr hlk hS (hP) (by rw [← he]; simp [p_tf]) dX0_wasSo_106
      · skip
        refine lv_iload hx hb dX0_wasSo_20 (lv_at hl 4 rfl) ?_
        refine lv_aload_n hx hb dX0_wasSo_22 rfl (lv_at hl 1 rfl) ?_
        refine cc_length S hK hP (hQ.keep hS) (rm_ok (Nat.le_of_ble_eq_true rfl)) hl.1 (v) hv hg (Nat.le_of_ble_eq_true rfl) dX0_wasSo_23 ?_
        refine kb_ge_n (tgt := 90) (a := k_) (b := (y 7 v).toNatClampNeg) S rfl hn7 (by omega) (by omega) dX0_wasSo_26 (by decide) (fun c_26 => ?_) (fun c_26 => ?_)
        · skip
          refine lv_iload_n hx hb dX0_wasSo_90 rfl (lv_at hl 3 rfl) ?_
          refine lv_istore (lv' := [(4, .int ((b2i (q = true)))), (0, .ref (t.2.1 0)), (1, .ref a), (2, .int ((nI k))), (3, .int ((b2i (q = true))))]) hx hb dX0_wasSo_91 hl (by decide) rfl (fun ls hl => ?_)
          refine lv_aload_n hx hb dX0_wasSo_93 rfl (lv_at hl 1 rfl) ?_
          refine cg_d S hK hP dX0_wasSo_94 ?_
          refine lv_aload_n hx hb dX0_wasSo_97 rfl (lv_at hl 1 rfl) ?_
          refine cg_aside S hK hP dX0_wasSo_98 ?_
          refine cb_d_aside S hK hP hS (fun _ h => h) (rm_ok (Nat.le_of_ble_eq_true rfl)) hl.1 (Nat.le_of_ble_eq_true rfl) dX0_wasSo_101 (fun H locs hP hS => ?_)
          refine lv_iload hx hb dX0_wasSo_104 (lv_at hl 0 rfl) ?_
          exact kk_zretW S hr hlk hS (hP) (by rw [← he]; simp [p_tf]) dX0_wasSo_106
        · exact absurd c_26 (by omega)
    | succ j ih =>
      intro k_ q r1 H locs ls hkj he hV1 hP hS hl
      have ih_16 := ih
      refine lv_iload_n hx hb dX0_wasSo_16 rfl (lv_at hl 3 rfl) ?_
      refine kb_ifeq (tgt := 90) S dX0_wasSo_17 (by decide) (fun c_17 => ?_) (fun c_17 => ?_)
      · skip
        refine lv_iload_n hx hb dX0_wasSo_90 rfl (lv_at hl 3 rfl) ?_
        refine lv_istore (lv' := [(4, .int ((b2i (q = true)))), (0, .ref (t.2.1 0)), (1, .ref a), (2, .int ((nI k))), (3, .int ((b2i (q = true))))]) hx hb dX0_wasSo_91 hl (by decide) rfl (fun ls hl => ?_)
        refine lv_aload_n hx hb dX0_wasSo_93 rfl (lv_at hl 1 rfl) ?_
        refine cg_d S hK hP dX0_wasSo_94 ?_
        refine lv_aload_n hx hb dX0_wasSo_97 rfl (lv_at hl 1 rfl) ?_
        refine cg_aside S hK hP dX0_wasSo_98 ?_
        refine cb_d_aside S hK hP hS (fun _ h => h) (rm_ok (Nat.le_of_ble_eq_true rfl)) hl.1 (Nat.le_of_ble_eq_true rfl) dX0_wasSo_101 (fun H locs hP hS => ?_)
        refine lv_iload hx hb dX0_wasSo_104 (lv_at hl 0 rfl) ?_
        exact kk_zretW S hr hlk hS (hP) (by rw [← he]; simp [c_17]) dX0_wasSo_106
      · skip
        refine lv_iload hx hb dX0_wasSo_20 (lv_at hl 4 rfl) ?_
        refine lv_aload_n hx hb dX0_wasSo_22 rfl (lv_at hl 1 rfl) ?_
        refine cc_length S hK hP (hQ.keep hS) (rm_ok (Nat.le_of_ble_eq_true rfl)) hl.1 (v) hv hg (Nat.le_of_ble_eq_true rfl) dX0_wasSo_23 ?_
        refine kb_ge_n (tgt := 90) (a := k_) (b := (y 7 v).toNatClampNeg) S rfl hn7 (by omega) (by omega) dX0_wasSo_26 (by decide) (fun c_26 => ?_) (fun c_26 => ?_)
        · exact absurd c_26 (by omega)
        · skip
          refine lv_aload_n hx hb dX0_wasSo_29 rfl (lv_at hl 1 rfl) ?_
          refine lv_iload hx hb dX0_wasSo_30 (lv_at hl 4 rfl) ?_
          refine cc_number S hK hP (hQ.keep hS) (rm_ok (Nat.le_of_ble_eq_true rfl)) hl.1 (k_) (v) hv hg (by omega) rfl (Nat.le_of_ble_eq_true rfl) dX0_wasSo_32 ?_
          refine lv_iconst (v := (-1)) hx hb dX0_wasSo_35 (by decide) ?_
          refine lv_icmp_eq (tgt := 74) hx hb dX0_wasSo_36 (by decide) (fun c_36 => ?_) (fun c_36 => ?_)
          · skip
            refine lv_iconst (v := 1) hx hb dX0_wasSo_74 (by decide) ?_
            refine lv_goto (tgt := 79) hx hb dX0_wasSo_75 (by decide) ?_
            refine lv_istore_n (lv' := [(3, .int (1)), (0, .ref (t.2.1 0)), (1, .ref a), (2, .int ((nI k))), (4, .int ((nI k_)))]) hx hb dX0_wasSo_79 rfl hl (by decide) rfl (fun ls hl => ?_)
            refine lv_aload_n hx hb dX0_wasSo_80 rfl (lv_at hl 1 rfl) ?_
            refine cc_passes_2 S hK hP hS (rm_ok (Nat.le_of_ble_eq_true rfl)) hl.1 ((b + k_)) hV1 (by omega) (Nat.le_of_ble_eq_true rfl) dX0_wasSo_81 (fun H locs hP hS => ?_)
            refine lv_iinc (v := (nI (k_ + 1))) (lv' := [(4, .int ((nI (k_ + 1)))), (3, .int (1)), (0, .ref (t.2.1 0)), (1, .ref a), (2, .int ((nI k)))]) hx hb dX0_wasSo_84 hl (k := 4) rfl (nn_1 rfl) (by decide) rfl (fun ls hl => ?_)
            refine lv_goto (tgt := 16) hx hb dX0_wasSo_87 (by decide) ?_
            exact ih_16 ((k_ + 1)) true _ _ _ ls (by omega) (by have h := he; rw [c_17, p_tf, if_pos (show y 8 (40 * v + k_) = -1 ∨ y 8 (40 * v + k_) = r1 (16 + 7 * k + 2) from Or.inl c_36)] at h; exact h) (pV_day (b := b + k_) hV1 (by omega)) hP hS (lv_sub hl [2, 3, 4, 1, 0] rfl)
          · skip
            refine lv_aload_n hx hb dX0_wasSo_39 rfl (lv_at hl 1 rfl) ?_
            refine lv_iload hx hb dX0_wasSo_40 (lv_at hl 4 rfl) ?_
            refine cc_number S hK hP (hQ.keep hS) (rm_ok (Nat.le_of_ble_eq_true rfl)) hl.1 (k_) (v) hv hg (by omega) rfl (Nat.le_of_ble_eq_true rfl) dX0_wasSo_42 ?_
            refine lv_iload_n hx hb dX0_wasSo_45 rfl (lv_at hl 2 rfl) ?_
            refine lv_iconst (v := (-1)) hx hb dX0_wasSo_46 (by decide) ?_
            refine lv_icmp_ne (tgt := 60) hx hb dX0_wasSo_47 (by decide) (fun c_47 => ?_) (fun c_47 => ?_)
            · skip
              refine lv_aload_n hx hb dX0_wasSo_60 rfl (lv_at hl 0 rfl) ?_
              refine cg_d S hK hP dX0_wasSo_61 ?_
              refine cd_cask S hK hP dX0_wasSo_64 ?_
              refine lv_iconst (v := 2) hx hb dX0_wasSo_67 (by decide) ?_
              refine ck_aald S hK hP (2) (by omega) rfl dX0_wasSo_68 ?_
              refine lv_iload_n hx hb dX0_wasSo_69 rfl (lv_at hl 2 rfl) ?_
              refine ck_ldc S hK hP (2) (by omega) (k) (by omega) rfl dX0_wasSo_70 ?_
              refine lv_icmp_ne (tgt := 78) hx hb dX0_wasSo_71 (by decide) (fun c_71 => ?_) (fun c_71 => ?_)
              · skip
                refine lv_iconst (v := 0) hx hb dX0_wasSo_78 (by decide) ?_
                refine lv_istore_n (lv' := [(3, .int (0)), (0, .ref (t.2.1 0)), (1, .ref a), (2, .int ((nI k))), (4, .int ((nI k_)))]) hx hb dX0_wasSo_79 rfl hl (by decide) rfl (fun ls hl => ?_)
                refine lv_aload_n hx hb dX0_wasSo_80 rfl (lv_at hl 1 rfl) ?_
                refine cc_passes_2 S hK hP hS (rm_ok (Nat.le_of_ble_eq_true rfl)) hl.1 ((b + k_)) hV1 (by omega) (Nat.le_of_ble_eq_true rfl) dX0_wasSo_81 (fun H locs hP hS => ?_)
                refine lv_iinc (v := (nI (k_ + 1))) (lv' := [(4, .int ((nI (k_ + 1)))), (3, .int (0)), (0, .ref (t.2.1 0)), (1, .ref a), (2, .int ((nI k)))]) hx hb dX0_wasSo_84 hl (k := 4) rfl (nn_1 rfl) (by decide) rfl (fun ls hl => ?_)
                refine lv_goto (tgt := 16) hx hb dX0_wasSo_87 (by decide) ?_
                exact ih_16 ((k_ + 1)) false _ _ _ ls (by omega) (by have h := he; rw [c_17, p_tf, if_neg (fun z => z.elim c_36 c_71)] at h; exact h) (pV_day (b := b + k_) hV1 (by omega)) hP hS (lv_sub hl [2, 3, 4, 1, 0] rfl)
              · skip
                refine lv_iconst (v := 1) hx hb dX0_wasSo_74 (by decide) ?_
                refine lv_goto (tgt := 79) hx hb dX0_wasSo_75 (by decide) ?_
                refine lv_istore_n (lv' := [(3, .int (1)), (0, .ref (t.2.1 0)), (1, .ref a), (2, .int ((nI k))), (4, .int ((nI k_)))]) hx hb dX0_wasSo_79 rfl hl (by decide) rfl (fun ls hl => ?_)
                refine lv_aload_n hx hb dX0_wasSo_80 rfl (lv_at hl 1 rfl) ?_
                refine cc_passes_2 S hK hP hS (rm_ok (Nat.le_of_ble_eq_true rfl)) hl.1 ((b + k_)) hV1 (by omega) (Nat.le_of_ble_eq_true rfl) dX0_wasSo_81 (fun H locs hP hS => ?_)
                refine lv_iinc (v := (nI (k_ + 1))) (lv' := [(4, .int ((nI (k_ + 1)))), (3, .int (1)), (0, .ref (t.2.1 0)), (1, .ref a), (2, .int ((nI k)))]) hx hb dX0_wasSo_84 hl (k := 4) rfl (nn_1 rfl) (by decide) rfl (fun ls hl => ?_)
                refine lv_goto (tgt := 16) hx hb dX0_wasSo_87 (by decide) ?_
                exact ih_16 ((k_ + 1)) true _ _ _ ls (by omega) (by have h := he; rw [c_17, p_tf, if_pos (show y 8 (40 * v + k_) = -1 ∨ y 8 (40 * v + k_) = r1 (16 + 7 * k + 2) from Or.inr c_71)] at h; exact h) (pV_day (b := b + k_) hV1 (by omega)) hP hS (lv_sub hl [2, 3, 4, 1, 0] rfl)
            · exact absurd (nI_pos' (n := k) (by omega)) (by rw [c_47]; decide)
  exact lp_16 ((y 7 v).toNatClampNeg) 0 true _ _ _ ls (by omega) (rfl) (hV) hP hS (lv_sub hl [2, 3, 4, 1, 0] rfl)
section CC
variable {p : Program} {l : Launch} {e : Env} {R : Room} {s : State} {m : MethodId} {args : Array Value} {below : List Frame} {meth : Method} {c : Code} {H H0 : Heap} {locs : List Loc} {cells slots : Nat} {Q : State → Prop}
variable {cc : ByteArray} {pc nL : Nat} {ls : Array Slot} {rest : List Value} {t : CT} {r : Rw} {x : Nat → Rw}
theorem cc_wasSo {y : Nat → Rw} (S : CallFix p m c cc nL s args lw_all RX0) (hK : cK t s) (hP : cX t r x H) (hQ : cSh t y H) (hS : va_S (cA t) H0 H locs) (hR : kRm R 9 cells slots) (hsz : ls.size = nL) {a : Nat} (k : Nat) (v : Nat) (b : Nat) (hv : v < 4) (hg : cG t v = some a) (hV : pV b r) (hb : b < 2 ^ 29) (hk : k < 8) {i1 : Int32} (e1 : i1 = nI k) (hrest : (rest.map fun v => v.category).sum ≤ 8) (hdg : decode cc pc = .ok (.invokevirtual 306, 3)) (kk : ∀ (H1 : Heap) (locs1 : List Loc), cX t (r) (va_up x 3 r) H1 → va_S (cA t) H0 H1 locs1 → W p l e R s m args below meth c H1 locs1 cells slots Q (F0 m (pc + 3) ls (.int (b2i (p_ist (fun u => y 8 (40 * v + u)) (y 7 v).toNatClampNeg (16 + 7 * k + 2) r = true)) :: rest))) : W p l e R s m args below meth c H locs cells slots Q (F0 m pc ls (.int i1 :: .ref a :: .ref (t.2.1 0) :: rest)) := by
  subst e1
  exact kk_Wi (CallRunX.run (W.runX (As := [.ref a, .int (nI k)]) (rest := rest) (maxL := 6) S (k0_wasSo l t r x y a k v b hv hg hV hb hk).x rfl rfl hR.1 (by have := hR.2.1; show 8 + (6 + 11) + 38 * 8 ≤ R.locals; omega) (pay_in S.2.2.2.2 (lw_methW q963)) (fun U hW => LocX.codeW (pay_in S.2.2.2.2 (lw_methW q963) _ List.mem_cons_self #[] U hW)) (S.2.2.2.2 _ q101) ⟨by decide, by decide⟩ (show (parseMethodDescriptor yX0_wasSo.desc).map (fun d => d.parameters.length) = some 2 from by decide +kernel) (S.2.2.2.2 _ q960) (S.2.2.2.2 _ q962) (S.2.2.2.2 _ qs35) ⟨cS_blind, c_recv hK hP, cS_pre hK hP hQ⟩ rfl hsz rfl (lv_room hrest) hdg ⟨hR.2.2.1, hR.2.2.2⟩) (fun _ _ _ h => ⟨_, h.1⟩)) hS (fun _ h => h) (fun _ h => h) (fun H1 locs1 hB _ _ hS => kk H1 locs1 hB hS)
end CC
set_option maxHeartbeats 4000000 in
set_option maxRecDepth 100000 in
theorem k0_kindsThatFit (l : Launch) (t : CT) (r : Rw) (x : Nat → Rw) (y : Nat → Rw) (a : Nat) (k : Nat) (v : Nat) (b : Nat) (hv : v < 4) (hg : cG t v = some a) (hk : k < 8) (hV : pV b r) (hb : b ≤ 99999) : Met l yX0_kindsThatFit (ws_ yX0_kindsThatFit cX0_kindsThatFit 6 (some .int)) (rmF 9) (va_Pc [.ref (t.2.1 0), .ref a, .int (nI k)] (fun U => cK t U ∧ cX t r x U.heap ∧ cSh t y U.heap)) (kW (some (.int (nI (lp (p_kdf (fun u => y 8 (40 * v + u)) (y 7 v).toNatClampNeg r k) 7 0 0)))) (fun H => ∃ f1, cX t (r) (va_up (x) 3 f1) H) (cA t)) 0 0 (cA t) := by
  refine kk_start (by decide) (Nat.le_of_ble_eq_true rfl) ?_
  intro p e s m below meth c S hr hlk hin hB ls hl
  obtain ⟨hK, hP⟩ := hB
  have hx := S.1
  have hb := S.2.1
  have hown : s.vm.findClass RX0 = some m.cls := S.2.2.2.1
  have hts := S.2.2.2.2
  have hS : va_S (cA t) s.heap s.heap [] := va_S.rf
  have hl : lv_has ls 6 [(0, .ref (t.2.1 0)), (1, .ref a), (2, .int ((nI k)))] := hl
  obtain ⟨hP, hQ⟩ := hP
  refine lv_aload_n hx hb dX0_kindsThatFit_0 rfl (lv_at hl 0 rfl) ?_
  refine cg_d S hK hP dX0_kindsThatFit_1 ?_
  refine cd_cask S hK hP dX0_kindsThatFit_4 ?_
  refine lv_iconst (v := 0) hx hb dX0_kindsThatFit_7 (by decide) ?_
  refine ck_aald S hK hP (0) (by omega) rfl dX0_kindsThatFit_8 ?_
  refine lv_iload_n hx hb dX0_kindsThatFit_9 rfl (lv_at hl 2 rfl) ?_
  refine ck_ldc S hK hP (0) (by omega) (k) (by omega) rfl dX0_kindsThatFit_10 ?_
  refine lv_istore_n (lv' := [(3, .int (r (16 + 7 * k + 0))), (0, .ref (t.2.1 0)), (1, .ref a), (2, .int ((nI k)))]) hx hb dX0_kindsThatFit_11 rfl hl (by decide) rfl (fun ls hl => ?_)
  refine lv_iconst (v := 0) hx hb dX0_kindsThatFit_12 (by decide) ?_
  refine lv_istore (lv' := [(4, .int (0)), (3, .int (r (16 + 7 * k + 0))), (0, .ref (t.2.1 0)), (1, .ref a), (2, .int ((nI k)))]) hx hb dX0_kindsThatFit_13 hl (by decide) rfl (fun ls hl => ?_)
  refine lv_iconst (v := 0) hx hb dX0_kindsThatFit_15 (by decide) ?_
  refine lv_istore (lv' := [(5, .int (0)), (4, .int (0)), (3, .int (r (16 + 7 * k + 0))), (0, .ref (t.2.1 0)), (1, .ref a), (2, .int ((nI k)))]) hx hb dX0_kindsThatFit_16 hl (by decide) rfl (fun ls hl => ?_)
  have lp_18 : ∀ (j w : Nat) (z : Nat) (r1 : Rw) (x1 : Nat → Rw) (H : Heap) (locs : List Loc) (ls : Array Slot), w + j = 7 → (lp (p_kdf (fun u => y 8 (40 * v + u)) (y 7 v).toNatClampNeg r k) j w z = lp (p_kdf (fun u => y 8 (40 * v + u)) (y 7 v).toNatClampNeg r k) 7 0 0) → (∃ u, r1 = upd r (16 + 7 * k + 0) u) → (∃ f, x1 = va_up x 3 f) → cX t (r1) (x1) H → va_S (cA t) s.heap H locs → lv_has ls 6 [(0, .ref (t.2.1 0)), (1, .ref a), (2, .int ((nI k))), (3, .int (r (16 + 7 * k + 0))), (4, .int ((nI z))), (5, .int ((nI w)))] → W p l e (rmF 9) s m ([.ref (t.2.1 0), .ref a, .int (nI k)] : List Value).toArray below meth c H locs 0 0 (MQ below (kW (some (.int (nI (lp (p_kdf (fun u => y 8 (40 * v + u)) (y 7 v).toNatClampNeg r k) 7 0 0)))) (fun H => ∃ f1, cX t (r) (va_up (x) 3 f1) H) (cA t)) ([.ref (t.2.1 0), .ref a, .int (nI k)] : List Value).toArray s 0 0 (cA t)) (F0 m 18 ls []) := by
    intro j
    induction j with
    | zero =>
      intro w z r1 x1 H locs ls hkj he hr1 hx1 hP hS hl
      obtain ⟨u1, rfl⟩ := hr1
      obtain ⟨f1, rfl⟩ := hx1
      refine lv_iload hx hb dX0_kindsThatFit_18 (lv_at hl 5 rfl) ?_
      refine lv_bipush (v := 7) hx hb dX0_kindsThatFit_20 (by decide) ?_
      refine kb_ge_n (tgt := 66) (a := w) (b := 7) S rfl rfl (by omega) (by omega) dX0_kindsThatFit_22 (by decide) (fun c_22 => ?_) (fun c_22 => ?_)
      · skip
        refine lv_aload_n hx hb dX0_kindsThatFit_66 rfl (lv_at hl 0 rfl) ?_
        refine cg_d S hK hP dX0_kindsThatFit_67 ?_
        refine cd_cask S hK hP dX0_kindsThatFit_70 ?_
        refine lv_iconst (v := 0) hx hb dX0_kindsThatFit_73 (by decide) ?_
        refine ck_aald S hK hP (0) (by omega) rfl dX0_kindsThatFit_74 ?_
        refine lv_iload_n hx hb dX0_kindsThatFit_75 rfl (lv_at hl 2 rfl) ?_
        refine lv_iload_n hx hb dX0_kindsThatFit_76 rfl (lv_at hl 3 rfl) ?_
        refine ck_stc S hK hP hS (fun _ h => h) (0) (by omega) (k) (by omega) rfl dX0_kindsThatFit_77 (fun H locs hP hS => ?_)
        rw [up_up, up_eta] at hP
        refine lv_iload hx hb dX0_kindsThatFit_78 (lv_at hl 4 rfl) ?_
        exact kk_iretW S hr hlk hS (by exact ⟨_, hP⟩) (by rw [← he]; rfl) dX0_kindsThatFit_80
      · exact absurd c_22 (by omega)
    | succ j ih =>
      intro w z r1 x1 H locs ls hkj he hr1 hx1 hP hS hl
      have ih_18 := ih
      obtain ⟨u1, rfl⟩ := hr1
      obtain ⟨f1, rfl⟩ := hx1
      refine lv_iload hx hb dX0_kindsThatFit_18 (lv_at hl 5 rfl) ?_
      refine lv_bipush (v := 7) hx hb dX0_kindsThatFit_20 (by decide) ?_
      refine kb_ge_n (tgt := 66) (a := w) (b := 7) S rfl rfl (by omega) (by omega) dX0_kindsThatFit_22 (by decide) (fun c_22 => ?_) (fun c_22 => ?_)
      · exact absurd c_22 (by omega)
      · skip
        refine lv_aload_n hx hb dX0_kindsThatFit_25 rfl (lv_at hl 0 rfl) ?_
        refine cg_d S hK hP dX0_kindsThatFit_26 ?_
        refine cd_cask S hK hP dX0_kindsThatFit_29 ?_
        refine lv_iconst (v := 0) hx hb dX0_kindsThatFit_32 (by decide) ?_
        refine ck_aald S hK hP (0) (by omega) rfl dX0_kindsThatFit_33 ?_
        refine lv_iload_n hx hb dX0_kindsThatFit_34 rfl (lv_at hl 2 rfl) ?_
        refine lv_iload hx hb dX0_kindsThatFit_35 (lv_at hl 5 rfl) ?_
        refine ck_stc S hK hP hS (fun _ h => h) (0) (by omega) (k) (by omega) rfl dX0_kindsThatFit_37 (fun H locs hP hS => ?_)
        rw [up_up] at hP
        refine lv_iload hx hb dX0_kindsThatFit_38 (lv_at hl 4 rfl) ?_
        refine lv_aload_n hx hb dX0_kindsThatFit_40 rfl (lv_at hl 0 rfl) ?_
        refine lv_aload_n hx hb dX0_kindsThatFit_41 rfl (lv_at hl 1 rfl) ?_
        refine lv_iload_n hx hb dX0_kindsThatFit_42 rfl (lv_at hl 2 rfl) ?_
        refine cc_wasSo S hK hP (hQ.keep hS) hS (rm_ok (Nat.le_of_ble_eq_true rfl)) hl.1 (k) (v) (b) hv hg (pV_set hV (by omega) (by omega) (fun _ => by omega) (fun z => absurd z (by decide))) (by omega) hk rfl (Nat.le_of_ble_eq_true rfl) dX0_kindsThatFit_43 (fun H locs hP hS => ?_)
        refine kb_ifeq (tgt := 56) S dX0_kindsThatFit_46 (by decide) (fun c_46 => ?_) (fun c_46 => ?_)
        · skip
          refine lv_iconst (v := 0) hx hb dX0_kindsThatFit_56 (by decide) ?_
          refine lv_ior hx hb dX0_kindsThatFit_57 ?_
          refine kb_nat (y := nI ((z ||| 0))) (nn_or rfl rfl) ?_
          refine lv_istore (lv' := [(4, .int ((nI (z ||| 0)))), (0, .ref (t.2.1 0)), (1, .ref a), (2, .int ((nI k))), (3, .int (r (16 + 7 * k + 0))), (5, .int ((nI w)))]) hx hb dX0_kindsThatFit_58 hl (by decide) rfl (fun ls hl => ?_)
          refine lv_iinc (v := (nI (w + 1))) (lv' := [(5, .int ((nI (w + 1)))), (4, .int ((nI (z ||| 0)))), (0, .ref (t.2.1 0)), (1, .ref a), (2, .int ((nI k))), (3, .int (r (16 + 7 * k + 0)))]) hx hb dX0_kindsThatFit_60 hl (k := 5) rfl (nn_1 rfl) (by decide) rfl (fun ls hl => ?_)
          refine lv_goto (tgt := 18) hx hb dX0_kindsThatFit_63 (by decide) ?_
          exact ih_18 ((w + 1)) ((z ||| 0)) _ _ _ _ ls (by omega) (by have h := he; rw [lp, p_kdf, if_neg (show ¬ p_ist (fun u => y 8 (40 * v + u)) (y 7 v).toNatClampNeg (16 + 7 * k + 2) (upd r (16 + 7 * k + 0) (nI w)) = true from c_46)] at h; exact h) (⟨_, rfl⟩) (⟨_, bx_uu _ _ _ _⟩) hP hS (lv_sub hl [2, 3, 4, 5, 1, 0] rfl)
        · skip
          refine lv_iconst (v := 1) hx hb dX0_kindsThatFit_49 (by decide) ?_
          refine lv_iload hx hb dX0_kindsThatFit_50 (lv_at hl 5 rfl) ?_
          refine lv_ishl hx hb dX0_kindsThatFit_52 ?_
          refine lv_goto (tgt := 57) hx hb dX0_kindsThatFit_53 (by decide) ?_
          refine lv_ior hx hb dX0_kindsThatFit_57 ?_
          refine kb_nat (y := nI ((z ||| (2 ^ w)))) (nn_or rfl (nn_shl1 _ (by omega))) ?_
          refine lv_istore (lv' := [(4, .int ((nI (z ||| (2 ^ w))))), (0, .ref (t.2.1 0)), (1, .ref a), (2, .int ((nI k))), (3, .int (r (16 + 7 * k + 0))), (5, .int ((nI w)))]) hx hb dX0_kindsThatFit_58 hl (by decide) rfl (fun ls hl => ?_)
          refine lv_iinc (v := (nI (w + 1))) (lv' := [(5, .int ((nI (w + 1)))), (4, .int ((nI (z ||| (2 ^ w))))), (0, .ref (t.2.1 0)), (1, .ref a), (2, .int ((nI k))), (3, .int (r (16 + 7 * k + 0)))]) hx hb dX0_kindsThatFit_60 hl (k := 5) rfl (nn_1 rfl) (by decide) rfl (fun ls hl => ?_)
          refine lv_goto (tgt := 18) hx hb dX0_kindsThatFit_63 (by decide) ?_
          exact ih_18 ((w + 1)) ((z ||| (2 ^ w))) _ _ _ _ ls (by omega) (by have h := he; rw [lp, p_kdf, if_pos (show p_ist (fun u => y 8 (40 * v + u)) (y 7 v).toNatClampNeg (16 + 7 * k + 2) (upd r (16 + 7 * k + 0) (nI w)) = true from c_46)] at h; exact h) (⟨_, rfl⟩) (⟨_, bx_uu _ _ _ _⟩) hP hS (lv_sub hl [2, 3, 4, 5, 1, 0] rfl)
  exact lp_18 7 0 (0) _ _ _ _ ls (by omega) (rfl) (⟨_, (up_eta r _).symm⟩) (⟨_, (va_eta x 3).symm⟩) hP hS (lv_sub hl [3, 4, 5, 2, 1, 0] rfl)
section CC
variable {p : Program} {l : Launch} {e : Env} {R : Room} {s : State} {m : MethodId} {args : Array Value} {below : List Frame} {meth : Method} {c : Code} {H H0 : Heap} {locs : List Loc} {cells slots : Nat} {Q : State → Prop}
variable {cc : ByteArray} {pc nL : Nat} {ls : Array Slot} {rest : List Value} {t : CT} {r : Rw} {x : Nat → Rw}
theorem cc_kindsThatFit {y : Nat → Rw} (S : CallFix p m c cc nL s args lw_all RX0) (hK : cK t s) (hP : cX t r x H) (hQ : cSh t y H) (hS : va_S (cA t) H0 H locs) (hR : kRm R 10 cells slots) (hsz : ls.size = nL) {a : Nat} (k : Nat) (v : Nat) (b : Nat) (hv : v < 4) (hg : cG t v = some a) (hk : k < 8) (hV : pV b r) (hb : b ≤ 99999) {i1 : Int32} (e1 : i1 = nI k) (hrest : (rest.map fun v => v.category).sum ≤ 8) (hdg : decode cc pc = .ok (.invokevirtual 320, 3)) (kk : ∀ (f1 : Rw) (H1 : Heap) (locs1 : List Loc), cX t (r) (va_up (x) 3 f1) H1 → va_S (cA t) H0 H1 locs1 → W p l e R s m args below meth c H1 locs1 cells slots Q (F0 m (pc + 3) ls (.int (nI (lp (p_kdf (fun u => y 8 (40 * v + u)) (y 7 v).toNatClampNeg r k) 7 0 0)) :: rest))) : W p l e R s m args below meth c H locs cells slots Q (F0 m pc ls (.int i1 :: .ref a :: .ref (t.2.1 0) :: rest)) := by
  subst e1
  exact kk_Wi (W.runV (As := [.ref a, .int (nI k)]) (rest := rest) S (k0_kindsThatFit l t r x y a k v b hv hg hk hV hb) (cwV 2 S.2.2.2.2 (lw_V q981 q983 qs36 q101 q984) rfl rfl rfl (by decide +kernel) ⟨hR.1, by have := hR.2.1; show 8 + (6 + 11) + 38 * 9 ≤ R.locals; omega⟩) ⟨cS_blind, c_recv hK hP, cS_pre hK hP hQ⟩ rfl rfl hsz rfl (lv_room hrest) hdg ⟨hR.2.2.1, hR.2.2.2⟩) hS (fun _ h => h) (fun _ h => h) (fun H1 locs1 hB _ _ hS => by obtain ⟨f1, hB⟩ := hB; exact kk f1 H1 locs1 hB hS)
end CC
set_option maxHeartbeats 4000000 in
set_option maxRecDepth 100000 in
theorem k0_kinds (l : Launch) (t : CT) (r : Rw) (x : Nat → Rw) (y : Nat → Rw) (v : Int32) (a : Int32) (b : Nat) (hV : pV b r) (hb : b ≤ 99999) : Met l yX0_kinds (wsW_ yX0_kinds cX0_kinds 4 (some .int) [(0, 11, 12, 49)]) (rmF 10) (va_Pc [.ref (t.2.1 0), .int v, .int a] (fun U => cK t U ∧ cX t r x U.heap ∧ cSh t y U.heap)) (kW (some (.int ((o_kinds (mSv y) r v a).1))) (fun H => ∃ x1, cJ (fx x (o_kinds (mSv y) r v a).2.2) x1 ∧ cX t ((o_kinds (mSv y) r v a).2.1) x1 H) (cA t)) 0 0 (cA t) := by
  refine kk_startW (by decide) (Nat.le_of_ble_eq_true rfl) ?_
  intro p e s m below meth c S hr hlk hts_ hB ls hl
  obtain ⟨hK, hP⟩ := hB
  have hx := S.1
  have hb := S.2.1
  have hown : s.vm.findClass RX0 = some m.cls := S.2.2.2.1
  have hts := S.2.2.2.2
  have hS : va_S (cA t) s.heap s.heap [] := va_S.rf
  have hl : lv_has ls 4 [(0, .ref (t.2.1 0)), (1, .int (v)), (2, .int (a))] := hl
  obtain ⟨hP, hQ⟩ := hP
  have hn := hV.n.1
  have hn8 := hV.n.2
  refine lv_aload_n hx hb dX0_kinds_0 rfl (lv_at hl 0 rfl) ?_
  refine lv_aload_n hx hb dX0_kinds_1 rfl (lv_at hl 0 rfl) ?_
  refine lv_iload_n hx hb dX0_kinds_2 rfl (lv_at hl 1 rfl) ?_
  refine lv_iload_n hx hb dX0_kinds_3 rfl (lv_at hl 2 rfl) ?_
  refine cc_rowFor S hK hP (hQ.keep hS) hS (rm_ok (Nat.le_of_ble_eq_true rfl)) hl.1 (b) hV (Nat.le_of_ble_eq_true rfl) dX0_kinds_4 (fun ho_4 H locs hP hS => ?_) (fun j_4 ho_4 H locs hP hS => ?_)
  · skip
    have hz_ := ho_4
    obtain ⟨hv4, hak, q_, hq_⟩ := p_wf_none hz_
    obtain ⟨v_, hv_, rfl⟩ := nat_of_lt (n := 4) rfl (by omega) hv4
    have hcl_v_ := nI_clamp (n := v_) (by omega)
    obtain ⟨a_, ha_, rfl⟩ := nat_of_lt (n := pN r) hn (by omega) hak
    have hcl_a_ := nI_clamp (n := a_) (by omega)
    rw [hcl_v_] at hq_
    obtain ⟨g_, hg, hq2⟩ := hQ.at hv_ hq_
    refine kb_val (y := .ref g_) (by rw [hcl_v_, hg]; rfl) ?_
    refine lv_iload_n hx hb dX0_kinds_7 rfl (lv_at hl 2 rfl) ?_
    refine cc_kindsThatFit S hK hP (hQ.keep hS) hS (rm_ok (Nat.le_of_ble_eq_true rfl)) hl.1 (a_) (v_) (b) hv_ hg (by omega) hV (by omega) rfl (Nat.le_of_ble_eq_true rfl) dX0_kinds_8 (fun f_2 H locs hP hS => ?_)
    have hpk : p_kds (mSv y) r (nI v_) (nI a_) = lp (p_kdf (fun u => y 8 (40 * v_ + u)) (y 7 v_).toNatClampNeg r a_) 7 0 0 := by unfold p_kds; rw [hcl_v_, hq_, hq2, hcl_a_]
    exact kk_iretW S hr hlk hS (by simp only [o_kinds, hz_, oW, oK, fx]; exact ⟨_, ((cJ.rf _)).j3, hP⟩) (by simp only [o_kinds, hz_, oW, oK, hpk]) dX0_kinds_11
  · skip
    refine cx_catch S hK hP hts_ (by decide) (by decide) ?_
    refine lv_astore_n (lv' := [(3, .ref (t.2.1 2)), (0, .ref (t.2.1 0)), (1, .int (v)), (2, .int (a))]) hx hb dX0_kinds_12 rfl hl (by decide) rfl (fun ls hl => ?_)
    refine lv_aload_n hx hb dX0_kinds_13 rfl (lv_at hl 1 rfl) ?_
    refine lv_aload_n hx hb dX0_kinds_14 rfl (lv_at hl 0 rfl) ?_
    refine cgr_finding S hK hP dX0_kinds_15 ?_
    refine cc_finding S hK hP hS (rm_ok (Nat.le_of_ble_eq_true rfl)) hl.1 (j_4) (p_wf_lt ho_4) rfl (Nat.le_of_ble_eq_true rfl) dX0_kinds_18 (fun H locs hP hS => ?_)
    exact kk_iretW S hr hlk hS (by simp only [o_kinds, ho_4, oW, oF, fx]; exact ⟨_, (((cJ.rf _)).j12).fnd j_4, hP⟩) (by rw [o_kinds, ho_4]; rfl) dX0_kinds_21
section CC
variable {p : Program} {l : Launch} {e : Env} {R : Room} {s : State} {m : MethodId} {args : Array Value} {below : List Frame} {meth : Method} {c : Code} {H H0 : Heap} {locs : List Loc} {cells slots : Nat} {Q : State → Prop}
variable {cc : ByteArray} {pc nL : Nat} {ls : Array Slot} {rest : List Value} {t : CT} {r : Rw} {x : Nat → Rw}
end CC
set_option maxHeartbeats 4000000 in
set_option maxRecDepth 100000 in
theorem k0_loads (l : Launch) (t : CT) (r : Rw) (x : Nat → Rw) (y : Nat → Rw) (a : Nat) (v : Nat) (hv : v < 4) (hg : cG t v = some a) : Met l yX0_loads (ws_ yX0_loads cX0_loads 3 (some .int)) (rmF 2) (va_Pc [.ref (t.2.1 0), .ref a] (fun U => cK t U ∧ cX t r x U.heap ∧ cSh t y U.heap)) (kW (some (.int (nI (p_ldl (fun u => y 8 (40 * v + u)) (min (y 7 v).toNatClampNeg 6) 0 r).1))) (cX t ((p_ldl (fun u => y 8 (40 * v + u)) (min (y 7 v).toNatClampNeg 6) 0 r).2) (x)) (cA t)) 0 0 (cA t) := by
  refine kk_start (by decide) (Nat.le_of_ble_eq_true rfl) ?_
  intro p e s m below meth c S hr hlk hin hB ls hl
  obtain ⟨hK, hP⟩ := hB
  have hx := S.1
  have hb := S.2.1
  have hown : s.vm.findClass RX0 = some m.cls := S.2.2.2.1
  have hts := S.2.2.2.2
  have hS : va_S (cA t) s.heap s.heap [] := va_S.rf
  have hl : lv_has ls 3 [(0, .ref (t.2.1 0)), (1, .ref a)] := hl
  obtain ⟨hP, hQ⟩ := hP
  obtain ⟨hn7, hn40⟩ := (hQ.row hv hg).len
  refine lv_iconst (v := 0) hx hb dX0_loads_0 (by decide) ?_
  refine lv_istore_n (lv' := [(2, .int (0)), (0, .ref (t.2.1 0)), (1, .ref a)]) hx hb dX0_loads_1 rfl hl (by decide) rfl (fun ls hl => ?_)
  have lp_2 : ∀ (j k : Nat) (r1 : Rw) (H : Heap) (locs : List Loc) (ls : Array Slot), k + j = min (y 7 v).toNatClampNeg 6 → (p_ldl (fun u => y 8 (40 * v + u)) j k r1 = (p_ldl (fun u => y 8 (40 * v + u)) (min (y 7 v).toNatClampNeg 6) 0 r)) → cX t (r1) (x) H → va_S (cA t) s.heap H locs → lv_has ls 3 [(0, .ref (t.2.1 0)), (1, .ref a), (2, .int ((nI k)))] → W p l e (rmF 2) s m ([.ref (t.2.1 0), .ref a] : List Value).toArray below meth c H locs 0 0 (MQ below (kW (some (.int (nI (p_ldl (fun u => y 8 (40 * v + u)) (min (y 7 v).toNatClampNeg 6) 0 r).1))) (cX t ((p_ldl (fun u => y 8 (40 * v + u)) (min (y 7 v).toNatClampNeg 6) 0 r).2) (x)) (cA t)) ([.ref (t.2.1 0), .ref a] : List Value).toArray s 0 0 (cA t)) (F0 m 2 ls []) := by
    intro j
    induction j with
    | zero =>
      intro k  r1 H locs ls hkj he hP hS hl
      refine lv_iload_n hx hb dX0_loads_2 rfl (lv_at hl 2 rfl) ?_
      refine lv_aload_n hx hb dX0_loads_3 rfl (lv_at hl 1 rfl) ?_
      refine cc_length S hK hP (hQ.keep hS) (rm_ok (Nat.le_of_ble_eq_true rfl)) hl.1 (v) hv hg (Nat.le_of_ble_eq_true rfl) dX0_loads_4 ?_
      refine kb_ge_n (tgt := 48) (a := k) (b := (y 7 v).toNatClampNeg) S rfl hn7 (by omega) (by omega) dX0_loads_7 (by decide) (fun c_7 => ?_) (fun c_7 => ?_)
      · skip
        have hres : (p_ldl (fun u => y 8 (40 * v + u)) (min (y 7 v).toNatClampNeg 6) 0 r) = (k, r1) := by rw [← he]; rfl
        refine lv_iload_n hx hb dX0_loads_48 rfl (lv_at hl 2 rfl) ?_
        exact kk_iretW S hr hlk hS (by rw [hres]; exact hP) (by rw [hres]) dX0_loads_49
      · skip
        refine lv_iload_n hx hb dX0_loads_10 rfl (lv_at hl 2 rfl) ?_
        refine cc_isCellar S (rm_ok (Nat.le_of_ble_eq_true rfl)) hl.1 (Nat.le_of_ble_eq_true rfl) dX0_loads_11 ?_
        refine kb_ifeq (tgt := 48) S dX0_loads_14 (by decide) (fun c_14 => ?_) (fun c_14 => ?_)
        · skip
          have hres : (p_ldl (fun u => y 8 (40 * v + u)) (min (y 7 v).toNatClampNeg 6) 0 r) = (k, r1) := by rw [← he]; rfl
          refine lv_iload_n hx hb dX0_loads_48 rfl (lv_at hl 2 rfl) ?_
          exact kk_iretW S hr hlk hS (by rw [hres]; exact hP) (by rw [hres]) dX0_loads_49
        · exact absurd c_14 (fun z => absurd ((nI_ltI (by omega) (by decide)).mp (show nI k < nI 6 from z.2)) (by omega))
    | succ j ih =>
      intro k  r1 H locs ls hkj he hP hS hl
      have ih_2 := ih
      refine lv_iload_n hx hb dX0_loads_2 rfl (lv_at hl 2 rfl) ?_
      refine lv_aload_n hx hb dX0_loads_3 rfl (lv_at hl 1 rfl) ?_
      refine cc_length S hK hP (hQ.keep hS) (rm_ok (Nat.le_of_ble_eq_true rfl)) hl.1 (v) hv hg (Nat.le_of_ble_eq_true rfl) dX0_loads_4 ?_
      refine kb_ge_n (tgt := 48) (a := k) (b := (y 7 v).toNatClampNeg) S rfl hn7 (by omega) (by omega) dX0_loads_7 (by decide) (fun c_7 => ?_) (fun c_7 => ?_)
      · exact absurd c_7 (by omega)
      · skip
        refine lv_iload_n hx hb dX0_loads_10 rfl (lv_at hl 2 rfl) ?_
        refine cc_isCellar S (rm_ok (Nat.le_of_ble_eq_true rfl)) hl.1 (Nat.le_of_ble_eq_true rfl) dX0_loads_11 ?_
        refine kb_ifeq (tgt := 48) S dX0_loads_14 (by decide) (fun c_14 => ?_) (fun c_14 => ?_)
        · exact (c_14 ⟨nI_pos' (by omega), show nI k < nI 6 from (nI_ltI (by omega) (by decide)).mpr (by omega)⟩).elim
        · skip
          refine lv_aload_n hx hb dX0_loads_17 rfl (lv_at hl 1 rfl) ?_
          refine lv_iload_n hx hb dX0_loads_18 rfl (lv_at hl 2 rfl) ?_
          refine cc_number S hK hP (hQ.keep hS) (rm_ok (Nat.le_of_ble_eq_true rfl)) hl.1 (k) (v) hv hg (by omega) rfl (Nat.le_of_ble_eq_true rfl) dX0_loads_19 ?_
          refine cc_isStorm S (rm_ok (Nat.le_of_ble_eq_true rfl)) hl.1 (Nat.le_of_ble_eq_true rfl) dX0_loads_22 ?_
          refine kb_ifeq (tgt := 48) S dX0_loads_25 (by decide) (fun c_25 => ?_) (fun c_25 => ?_)
          · skip
            have hres : (p_ldl (fun u => y 8 (40 * v + u)) (min (y 7 v).toNatClampNeg 6) 0 r) = (k, r1) := by rw [← he, p_ldl, if_neg c_25]
            refine lv_iload_n hx hb dX0_loads_48 rfl (lv_at hl 2 rfl) ?_
            exact kk_iretW S hr hlk hS (by rw [hres]; exact hP) (by rw [hres]) dX0_loads_49
          · skip
            refine lv_aload_n hx hb dX0_loads_28 rfl (lv_at hl 0 rfl) ?_
            refine cg_d S hK hP dX0_loads_29 ?_
            refine cd_list S hK hP dX0_loads_32 ?_
            refine lv_iload_n hx hb dX0_loads_35 rfl (lv_at hl 2 rfl) ?_
            refine lv_aload_n hx hb dX0_loads_36 rfl (lv_at hl 1 rfl) ?_
            refine lv_iload_n hx hb dX0_loads_37 rfl (lv_at hl 2 rfl) ?_
            refine cc_number S hK hP (hQ.keep hS) (rm_ok (Nat.le_of_ble_eq_true rfl)) hl.1 (k) (v) hv hg (by omega) rfl (Nat.le_of_ble_eq_true rfl) dX0_loads_38 ?_
            refine ck_stl S hK hP hS (fun _ h => h) (k) (by omega) rfl dX0_loads_41 (fun H locs hP hS => ?_)
            refine lv_iinc (v := (nI (k + 1))) (lv' := [(2, .int ((nI (k + 1)))), (0, .ref (t.2.1 0)), (1, .ref a)]) hx hb dX0_loads_42 hl (k := 2) rfl (nn_1 rfl) (by decide) rfl (fun ls hl => ?_)
            refine lv_goto (tgt := 2) hx hb dX0_loads_45 (by decide) ?_
            exact ih_2 ((k + 1)) _ _ _ ls (by omega) (by have h := he; rw [p_ldl, if_pos c_25] at h; exact h) hP hS (lv_sub hl [1, 2, 0] rfl)
  exact lp_2 (min (y 7 v).toNatClampNeg 6) 0 _ _ _ ls (by omega) (rfl) hP hS (lv_sub hl [1, 2, 0] rfl)
section CC
variable {p : Program} {l : Launch} {e : Env} {R : Room} {s : State} {m : MethodId} {args : Array Value} {below : List Frame} {meth : Method} {c : Code} {H H0 : Heap} {locs : List Loc} {cells slots : Nat} {Q : State → Prop}
variable {cc : ByteArray} {pc nL : Nat} {ls : Array Slot} {rest : List Value} {t : CT} {r : Rw} {x : Nat → Rw}
theorem cc_loads {y : Nat → Rw} (S : CallFix p m c cc nL s args lw_all RX0) (hK : cK t s) (hP : cX t r x H) (hQ : cSh t y H) (hS : va_S (cA t) H0 H locs) (hR : kRm R 3 cells slots) (hsz : ls.size = nL) {a : Nat} (v : Nat) (hv : v < 4) (hg : cG t v = some a) (hrest : (rest.map fun v => v.category).sum ≤ 8) (hdg : decode cc pc = .ok (.invokevirtual 396, 3)) (kk : ∀ (H1 : Heap) (locs1 : List Loc), cX t ((p_ldl (fun u => y 8 (40 * v + u)) (min (y 7 v).toNatClampNeg 6) 0 r).2) (x) H1 → va_S (cA t) H0 H1 locs1 → W p l e R s m args below meth c H1 locs1 cells slots Q (F0 m (pc + 3) ls (.int (nI (p_ldl (fun u => y 8 (40 * v + u)) (min (y 7 v).toNatClampNeg 6) 0 r).1) :: rest))) : W p l e R s m args below meth c H locs cells slots Q (F0 m pc ls (.ref a :: .ref (t.2.1 0) :: rest)) := by
  exact kk_Wi (W.runV (As := [.ref a]) (rest := rest) S (k0_loads l t r x y a v hv hg) (cwV 1 S.2.2.2.2 (lw_V q1197 q1199 qs53 q101 q1200) rfl rfl rfl (by decide +kernel) ⟨hR.1, by have := hR.2.1; show 8 + (3 + 11) + 38 * 2 ≤ R.locals; omega⟩) ⟨cS_blind, c_recv hK hP, cS_pre hK hP hQ⟩ rfl rfl hsz rfl (lv_room hrest) hdg ⟨hR.2.2.1, hR.2.2.2⟩) hS (fun _ h => h) (fun _ h => h) (fun H1 locs1 hB _ _ hS => kk H1 locs1 hB hS)
end CC
set_option maxHeartbeats 4000000 in
set_option maxRecDepth 100000 in
theorem k0_load (l : Launch) (t : CT) (r : Rw) (x : Nat → Rw) (y : Nat → Rw) (v : Int32) : Met l yX0_load (wsW_ yX0_load cX0_load 3 (some .int) [(0, 25, 26, 49)]) (rmF 3) (va_Pc [.ref (t.2.1 0), .int v] (fun U => cK t U ∧ cX t r x U.heap ∧ cSh t y U.heap)) (kW (some (.int ((o_load (mSv y) r v).1))) (fun H => ∃ x1, cJ (fx x (o_load (mSv y) r v).2.2) x1 ∧ cX t ((o_load (mSv y) r v).2.1) x1 H) (cA t)) 0 0 (cA t) := by
  refine kk_startW (by decide) (Nat.le_of_ble_eq_true rfl) ?_
  intro p e s m below meth c S hr hlk hts_ hB ls hl
  obtain ⟨hK, hP⟩ := hB
  have hx := S.1
  have hb := S.2.1
  have hown : s.vm.findClass RX0 = some m.cls := S.2.2.2.1
  have hts := S.2.2.2.2
  have hS : va_S (cA t) s.heap s.heap [] := va_S.rf
  have hl : lv_has ls 3 [(0, .ref (t.2.1 0)), (1, .int (v))] := hl
  obtain ⟨hP, hQ⟩ := hP
  refine lv_aload_n hx hb dX0_load_0 rfl (lv_at hl 0 rfl) ?_
  refine lv_iload_n hx hb dX0_load_1 rfl (lv_at hl 1 rfl) ?_
  refine cc_rowAt S hK hP hS (rm_ok (Nat.le_of_ble_eq_true rfl)) hl.1 (Nat.le_of_ble_eq_true rfl) dX0_load_2 (fun ho_2 H locs hP hS => ?_) (fun j_2 ho_2 H locs hP hS => ?_)
  · skip
    have hv4 := oif_n.mp ho_2
    obtain ⟨v_, hv_, rfl⟩ := nat_of_lt (n := 4) rfl (by omega) hv4
    have hcl_v_ := nI_clamp (n := v_) (by omega)
    rcases hg : cG t v_ with _ | g_
    · skip
      refine kb_val (y := .null) (by rw [hcl_v_, hg]; rfl) ?_
      refine lv_astore_nN (lv' := [(2, .null), (0, .ref (t.2.1 0)), (1, .int ((nI v_)))]) hx hb dX0_load_5 rfl hl (by decide) rfl (fun ls hl => ?_)
      refine lv_aload_n hx hb dX0_load_6 rfl (lv_at hl 1 rfl) ?_
      refine lv_aload_nN hx hb dX0_load_7 rfl (lv_at hl 0 rfl) ?_
      refine lv_ifnullN (tgt := 15) hx hb dX0_load_8 (by decide) ?_
      refine lv_iconst (v := 0) hx hb dX0_load_15 (by decide) ?_
      refine lv_iconst (v := 5) hx hb dX0_load_16 (by decide) ?_
      refine cc_need0 S hK hP hS (rm_ok (Nat.le_of_ble_eq_true rfl)) hl.1 (5) (by decide) rfl (Nat.le_of_ble_eq_true rfl) dX0_load_17 (fun H locs hP hS => ?_)
      have hz_ : p_w (mSv y) (nI v_) = some 5 := by rw [p_w, if_pos hv4, hcl_v_, hQ.nn hv_ hg]
      refine cx_catch S hK hP hts_ (by decide) (by decide) ?_
      refine lv_astore_n (lv' := [(2, .ref (t.2.1 2)), (0, .ref (t.2.1 0)), (1, .int ((nI v_)))]) hx hb dX0_load_26 rfl hl (by decide) rfl (fun ls hl => ?_)
      refine lv_aload_n hx hb dX0_load_27 rfl (lv_at hl 1 rfl) ?_
      refine lv_aload_n hx hb dX0_load_28 rfl (lv_at hl 0 rfl) ?_
      refine cgr_finding S hK hP dX0_load_29 ?_
      refine cc_finding S hK hP hS (rm_ok (Nat.le_of_ble_eq_true rfl)) hl.1 (5) (by decide) rfl (Nat.le_of_ble_eq_true rfl) dX0_load_32 (fun H locs hP hS => ?_)
      exact kk_iretW S hr hlk hS (by simp only [o_load, hz_, oW, oF, fx]; exact ⟨_, (((cJ.rf _)).j12).fnd 5, hP⟩) (by rw [o_load, hz_]; rfl) dX0_load_35
    · skip
      refine kb_val (y := .ref g_) (by rw [hcl_v_, hg]; rfl) ?_
      have hz_ : p_w (mSv y) (nI v_) = none := by rw [p_w, if_pos hv4, hcl_v_, hQ.sm hv_ hg]
      have hq_ := hQ.sm hv_ hg
      have hv := hv_
      refine lv_astore_n (lv' := [(2, .ref g_), (0, .ref (t.2.1 0)), (1, .int ((nI v_)))]) hx hb dX0_load_5 rfl hl (by decide) rfl (fun ls hl => ?_)
      refine lv_aload_n hx hb dX0_load_6 rfl (lv_at hl 1 rfl) ?_
      refine lv_aload_n hx hb dX0_load_7 rfl (lv_at hl 0 rfl) ?_
      refine lv_ifnull hx hb dX0_load_8 ?_
      refine lv_iconst (v := 1) hx hb dX0_load_11 (by decide) ?_
      refine lv_goto (tgt := 16) hx hb dX0_load_12 (by decide) ?_
      refine lv_iconst (v := 5) hx hb dX0_load_16 (by decide) ?_
      refine cc_need1 S hK hP hS (rm_ok (Nat.le_of_ble_eq_true rfl)) hl.1 (5) (by decide) rfl (Nat.le_of_ble_eq_true rfl) dX0_load_17 (fun H locs hP hS => ?_)
      refine lv_aload_n hx hb dX0_load_20 rfl (lv_at hl 1 rfl) ?_
      refine lv_aload_n hx hb dX0_load_21 rfl (lv_at hl 0 rfl) ?_
      refine cc_loads S hK hP (hQ.keep hS) hS (rm_ok (Nat.le_of_ble_eq_true rfl)) hl.1 (v_) hv_ hg (Nat.le_of_ble_eq_true rfl) dX0_load_22 (fun H locs hP hS => ?_)
      have hpl : p_load (mSv y) r (nI v_) = (p_ldl (fun u => y 8 (40 * v_ + u)) (min (y 7 v_).toNatClampNeg 6) 0 r) := by unfold p_load; rw [hcl_v_, hq_]
      exact kk_iretW S hr hlk hS (by simp only [o_load, hz_, oW, oK, fx, hpl]; exact ⟨_, (cJ.rf _), hP⟩) (by simp only [o_load, hz_, oW, oK, hpl]) dX0_load_25
  · skip
    have hz_ : p_w (mSv y) v = some 0 := if_neg (oif_s.mp ho_2).1
    obtain ⟨-, hj_⟩ := oif_s.mp ho_2
    subst hj_
    refine cx_catch S hK hP hts_ (by decide) (by decide) ?_
    refine lv_astore_n (lv' := [(2, .ref (t.2.1 2)), (0, .ref (t.2.1 0)), (1, .int (v))]) hx hb dX0_load_26 rfl hl (by decide) rfl (fun ls hl => ?_)
    refine lv_aload_n hx hb dX0_load_27 rfl (lv_at hl 1 rfl) ?_
    refine lv_aload_n hx hb dX0_load_28 rfl (lv_at hl 0 rfl) ?_
    refine cgr_finding S hK hP dX0_load_29 ?_
    refine cc_finding S hK hP hS (rm_ok (Nat.le_of_ble_eq_true rfl)) hl.1 (0) (by decide) rfl (Nat.le_of_ble_eq_true rfl) dX0_load_32 (fun H locs hP hS => ?_)
    exact kk_iretW S hr hlk hS (by simp only [o_load, hz_, oW, oF, fx]; exact ⟨_, (((cJ.rf _)).j12).fnd 0, hP⟩) (by rw [o_load, hz_]; rfl) dX0_load_35
set_option maxHeartbeats 4000000 in
set_option maxRecDepth 100000 in
theorem k0_judge (l : Launch) (t : CT) (r : Rw) (x : Nat → Rw) (y : Nat → Rw) (v : Int32) (b : Nat) (hV : pV b r) : Met l yX0_judge (wsW_ yX0_judge cX0_judge 4 (some .int) [(0, 78, 79, 49)]) (rmF 3) (va_Pc [.ref (t.2.1 0), .int v] (fun U => cK t U ∧ cX t r x U.heap ∧ cSh t y U.heap)) (kW (some (.int ((o_judge (mSv y) r v).1))) (fun H => ∃ x1, cJ (fx x (o_judge (mSv y) r v).2.2) x1 ∧ cX t ((o_judge (mSv y) r v).2.1) x1 H) (cA t)) 0 0 (cA t) := by
  refine kk_startW (by decide) (Nat.le_of_ble_eq_true rfl) ?_
  intro p e s m below meth c S hr hlk hts_ hB ls hl
  obtain ⟨hK, hP⟩ := hB
  have hx := S.1
  have hb := S.2.1
  have hown : s.vm.findClass RX0 = some m.cls := S.2.2.2.1
  have hts := S.2.2.2.2
  have hS : va_S (cA t) s.heap s.heap [] := va_S.rf
  have hl : lv_has ls 4 [(0, .ref (t.2.1 0)), (1, .int (v))] := hl
  obtain ⟨hP, hQ⟩ := hP
  have hn := hV.n.1
  have hn8 := hV.n.2
  refine lv_aload_n hx hb dX0_judge_0 rfl (lv_at hl 0 rfl) ?_
  refine lv_iload_n hx hb dX0_judge_1 rfl (lv_at hl 1 rfl) ?_
  refine cc_rowAt S hK hP hS (rm_ok (Nat.le_of_ble_eq_true rfl)) hl.1 (Nat.le_of_ble_eq_true rfl) dX0_judge_2 (fun ho_2 H locs hP hS => ?_) (fun j_2 ho_2 H locs hP hS => ?_)
  · skip
    have hv4 := oif_n.mp ho_2
    obtain ⟨v_, hv_, rfl⟩ := nat_of_lt (n := 4) rfl (by omega) hv4
    have hcl_v_ := nI_clamp (n := v_) (by omega)
    rcases hg : cG t v_ with _ | g_
    · skip
      refine kb_val (y := .null) (by rw [hcl_v_, hg]; rfl) ?_
      refine lv_astore_nN (lv' := [(2, .null), (0, .ref (t.2.1 0)), (1, .int ((nI v_)))]) hx hb dX0_judge_5 rfl hl (by decide) rfl (fun ls hl => ?_)
      refine lv_aload_n hx hb dX0_judge_6 rfl (lv_at hl 1 rfl) ?_
      refine lv_aload_nN hx hb dX0_judge_7 rfl (lv_at hl 0 rfl) ?_
      refine lv_ifnullN (tgt := 15) hx hb dX0_judge_8 (by decide) ?_
      refine lv_iconst (v := 0) hx hb dX0_judge_15 (by decide) ?_
      refine lv_iconst (v := 5) hx hb dX0_judge_16 (by decide) ?_
      refine cc_need0 S hK hP hS (rm_ok (Nat.le_of_ble_eq_true rfl)) hl.1 (5) (by decide) rfl (Nat.le_of_ble_eq_true rfl) dX0_judge_17 (fun H locs hP hS => ?_)
      have hz_ : p_w (mSv y) (nI v_) = some 5 := by rw [p_w, if_pos hv4, hcl_v_, hQ.nn hv_ hg]
      refine cx_catch S hK hP hts_ (by decide) (by decide) ?_
      refine lv_astore_n (lv' := [(2, .ref (t.2.1 2)), (0, .ref (t.2.1 0)), (1, .int ((nI v_)))]) hx hb dX0_judge_79 rfl hl (by decide) rfl (fun ls hl => ?_)
      refine lv_aload_n hx hb dX0_judge_80 rfl (lv_at hl 1 rfl) ?_
      refine lv_aload_n hx hb dX0_judge_81 rfl (lv_at hl 0 rfl) ?_
      refine cgr_finding S hK hP dX0_judge_82 ?_
      refine cc_finding S hK hP hS (rm_ok (Nat.le_of_ble_eq_true rfl)) hl.1 (5) (by decide) rfl (Nat.le_of_ble_eq_true rfl) dX0_judge_85 (fun H locs hP hS => ?_)
      exact kk_iretW S hr hlk hS (by simp only [o_judge, hz_, oW, oF, fx]; exact ⟨_, (((cJ.rf _)).j12).fnd 5, hP⟩) (by rw [o_judge, hz_]; rfl) dX0_judge_88
    · skip
      refine kb_val (y := .ref g_) (by rw [hcl_v_, hg]; rfl) ?_
      have hz_ : p_w (mSv y) (nI v_) = none := by rw [p_w, if_pos hv4, hcl_v_, hQ.sm hv_ hg]
      have hq_ := hQ.sm hv_ hg
      have hv := hv_
      obtain ⟨hn7, hn40⟩ := (hQ.row hv_ hg).len
      refine lv_astore_n (lv' := [(2, .ref g_), (0, .ref (t.2.1 0)), (1, .int ((nI v_)))]) hx hb dX0_judge_5 rfl hl (by decide) rfl (fun ls hl => ?_)
      refine lv_aload_n hx hb dX0_judge_6 rfl (lv_at hl 1 rfl) ?_
      refine lv_aload_n hx hb dX0_judge_7 rfl (lv_at hl 0 rfl) ?_
      refine lv_ifnull hx hb dX0_judge_8 ?_
      refine lv_iconst (v := 1) hx hb dX0_judge_11 (by decide) ?_
      refine lv_goto (tgt := 16) hx hb dX0_judge_12 (by decide) ?_
      refine lv_iconst (v := 5) hx hb dX0_judge_16 (by decide) ?_
      refine cc_need1 S hK hP hS (rm_ok (Nat.le_of_ble_eq_true rfl)) hl.1 (5) (by decide) rfl (Nat.le_of_ble_eq_true rfl) dX0_judge_17 (fun H locs hP hS => ?_)
      refine lv_iconst (v := 0) hx hb dX0_judge_20 (by decide) ?_
      refine lv_istore_n (lv' := [(3, .int (0)), (2, .ref g_), (0, .ref (t.2.1 0)), (1, .int ((nI v_)))]) hx hb dX0_judge_21 rfl hl (by decide) rfl (fun ls hl => ?_)
      have lp_22 : ∀ (j k : Nat) (H : Heap) (locs : List Loc) (ls : Array Slot), k + j = (y 7 v_).toNatClampNeg → (p_jgl (fun u => y 8 (40 * v_ + u)) r j k = (p_jgl (fun u => y 8 (40 * v_ + u)) r (y 7 v_).toNatClampNeg 0)) → cX t (r) (x) H → va_S (cA t) s.heap H locs → lv_has ls 4 [(0, .ref (t.2.1 0)), (1, .int ((nI v_))), (2, .ref g_), (3, .int ((nI k)))] → W p l e (rmF 3) s m ([.ref (t.2.1 0), .int (nI v_)] : List Value).toArray below meth c H locs 0 0 (MQ below (kW (some (.int ((o_judge (mSv y) r (nI v_)).1))) (fun H => ∃ x1, cJ (fx x (o_judge (mSv y) r (nI v_)).2.2) x1 ∧ cX t ((o_judge (mSv y) r (nI v_)).2.1) x1 H) (cA t)) ([.ref (t.2.1 0), .int (nI v_)] : List Value).toArray s 0 0 (cA t)) (F0 m 22 ls []) := by
        intro j
        induction j with
        | zero =>
          intro k  H locs ls hkj he hP hS hl
          refine lv_iload_n hx hb dX0_judge_22 rfl (lv_at hl 3 rfl) ?_
          refine lv_aload_n hx hb dX0_judge_23 rfl (lv_at hl 2 rfl) ?_
          refine cc_length S hK hP (hQ.keep hS) (rm_ok (Nat.le_of_ble_eq_true rfl)) hl.1 (v_) hv_ hg (Nat.le_of_ble_eq_true rfl) dX0_judge_24 ?_
          refine kb_ge_n (tgt := 63) (a := k) (b := (y 7 v_).toNatClampNeg) S rfl hn7 (by omega) (by omega) dX0_judge_27 (by decide) (fun c_27 => ?_) (fun c_27 => ?_)
          · skip
            have hres : (p_jgl (fun u => y 8 (40 * v_ + u)) r (y 7 v_).toNatClampNeg 0) = k := by rw [← he]; rfl
            refine lv_iload_n hx hb dX0_judge_63 rfl (lv_at hl 3 rfl) ?_
            refine lv_aload_n hx hb dX0_judge_64 rfl (lv_at hl 2 rfl) ?_
            refine cc_length S hK hP (hQ.keep hS) (rm_ok (Nat.le_of_ble_eq_true rfl)) hl.1 (v_) hv_ hg (Nat.le_of_ble_eq_true rfl) dX0_judge_65 ?_
            refine kb_ne_n (tgt := 75) (a := k) (b := (y 7 v_).toNatClampNeg) S rfl hn7 (by omega) (by omega) dX0_judge_68 (by decide) (fun c_68 => ?_) (fun c_68 => ?_)
            · exact absurd c_68 (by omega)
            · skip
              refine lv_iconst (v := 0) hx hb dX0_judge_71 (by decide) ?_
              refine lv_goto (tgt := 78) hx hb dX0_judge_72 (by decide) ?_
              exact kk_iretW S hr hlk hS (by rw [o_judge, hz_]; exact ⟨_, (cJ.rf _), hP⟩) (by rw [o_judge, hz_]; show _ = p_judge (mSv y) r (nI v_); unfold p_judge; rw [hcl_v_, hq_]; simp only [hres]; rw [if_neg (by omega)]) dX0_judge_78
          · exact absurd c_27 (by omega)
        | succ j ih =>
          intro k  H locs ls hkj he hP hS hl
          have ih_22 := ih
          refine lv_iload_n hx hb dX0_judge_22 rfl (lv_at hl 3 rfl) ?_
          refine lv_aload_n hx hb dX0_judge_23 rfl (lv_at hl 2 rfl) ?_
          refine cc_length S hK hP (hQ.keep hS) (rm_ok (Nat.le_of_ble_eq_true rfl)) hl.1 (v_) hv_ hg (Nat.le_of_ble_eq_true rfl) dX0_judge_24 ?_
          refine kb_ge_n (tgt := 63) (a := k) (b := (y 7 v_).toNatClampNeg) S rfl hn7 (by omega) (by omega) dX0_judge_27 (by decide) (fun c_27 => ?_) (fun c_27 => ?_)
          · exact absurd c_27 (by omega)
          · skip
            refine lv_aload_n hx hb dX0_judge_30 rfl (lv_at hl 0 rfl) ?_
            refine lv_iload_n hx hb dX0_judge_31 rfl (lv_at hl 3 rfl) ?_
            refine cc_isCask S hK hP (rm_ok (Nat.le_of_ble_eq_true rfl)) hl.1 (b) hV (Nat.le_of_ble_eq_true rfl) dX0_judge_32 ?_
            refine kb_ifeq (tgt := 63) S dX0_judge_35 (by decide) (fun c_35 => ?_) (fun c_35 => ?_)
            · skip
              have hres : (p_jgl (fun u => y 8 (40 * v_ + u)) r (y 7 v_).toNatClampNeg 0) = k := by rw [← he, p_jgl, if_neg (fun z => c_35 ((isC hn hn8 (by omega)).mpr z.1))]
              refine lv_iload_n hx hb dX0_judge_63 rfl (lv_at hl 3 rfl) ?_
              refine lv_aload_n hx hb dX0_judge_64 rfl (lv_at hl 2 rfl) ?_
              refine cc_length S hK hP (hQ.keep hS) (rm_ok (Nat.le_of_ble_eq_true rfl)) hl.1 (v_) hv_ hg (Nat.le_of_ble_eq_true rfl) dX0_judge_65 ?_
              refine kb_ne_n (tgt := 75) (a := k) (b := (y 7 v_).toNatClampNeg) S rfl hn7 (by omega) (by omega) dX0_judge_68 (by decide) (fun c_68 => ?_) (fun c_68 => ?_)
              · skip
                refine lv_iconst (v := 1) hx hb dX0_judge_75 (by decide) ?_
                refine lv_iload_n hx hb dX0_judge_76 rfl (lv_at hl 3 rfl) ?_
                refine lv_iadd hx hb dX0_judge_77 ?_
                exact kk_iretW S hr hlk hS (by rw [o_judge, hz_]; exact ⟨_, (cJ.rf _), hP⟩) (by rw [o_judge, hz_]; show _ = p_judge (mSv y) r (nI v_); unfold p_judge; rw [hcl_v_, hq_]; simp only [hres]; rw [if_pos (show k < (y 7 v_).toNatClampNeg by omega)]; exact nn_add rfl rfl) dX0_judge_78
              · exact absurd c_68 (by omega)
            · skip
              refine lv_aload_n hx hb dX0_judge_38 rfl (lv_at hl 2 rfl) ?_
              refine lv_iload_n hx hb dX0_judge_39 rfl (lv_at hl 3 rfl) ?_
              refine cc_number S hK hP (hQ.keep hS) (rm_ok (Nat.le_of_ble_eq_true rfl)) hl.1 (k) (v_) hv_ hg (by omega) rfl (Nat.le_of_ble_eq_true rfl) dX0_judge_40 ?_
              refine lv_aload_n hx hb dX0_judge_43 rfl (lv_at hl 0 rfl) ?_
              refine cg_d S hK hP dX0_judge_44 ?_
              refine cd_cask S hK hP dX0_judge_47 ?_
              refine lv_iconst (v := 2) hx hb dX0_judge_50 (by decide) ?_
              refine ck_aald S hK hP (2) (by omega) rfl dX0_judge_51 ?_
              refine lv_iload_n hx hb dX0_judge_52 rfl (lv_at hl 3 rfl) ?_
              refine ck_ldc S hK hP (2) (by omega) (k) (by have := (isC hn hn8 (by omega)).mp c_35; omega) rfl dX0_judge_53 ?_
              refine lv_icmp_ne (tgt := 63) hx hb dX0_judge_54 (by decide) (fun c_54 => ?_) (fun c_54 => ?_)
              · skip
                have hres : (p_jgl (fun u => y 8 (40 * v_ + u)) r (y 7 v_).toNatClampNeg 0) = k := by rw [← he, p_jgl, if_neg (fun z => c_54 z.2)]
                refine lv_iload_n hx hb dX0_judge_63 rfl (lv_at hl 3 rfl) ?_
                refine lv_aload_n hx hb dX0_judge_64 rfl (lv_at hl 2 rfl) ?_
                refine cc_length S hK hP (hQ.keep hS) (rm_ok (Nat.le_of_ble_eq_true rfl)) hl.1 (v_) hv_ hg (Nat.le_of_ble_eq_true rfl) dX0_judge_65 ?_
                refine kb_ne_n (tgt := 75) (a := k) (b := (y 7 v_).toNatClampNeg) S rfl hn7 (by omega) (by omega) dX0_judge_68 (by decide) (fun c_68 => ?_) (fun c_68 => ?_)
                · skip
                  refine lv_iconst (v := 1) hx hb dX0_judge_75 (by decide) ?_
                  refine lv_iload_n hx hb dX0_judge_76 rfl (lv_at hl 3 rfl) ?_
                  refine lv_iadd hx hb dX0_judge_77 ?_
                  exact kk_iretW S hr hlk hS (by rw [o_judge, hz_]; exact ⟨_, (cJ.rf _), hP⟩) (by rw [o_judge, hz_]; show _ = p_judge (mSv y) r (nI v_); unfold p_judge; rw [hcl_v_, hq_]; simp only [hres]; rw [if_pos (show k < (y 7 v_).toNatClampNeg by omega)]; exact nn_add rfl rfl) dX0_judge_78
                · exact absurd c_68 (by omega)
              · skip
                refine lv_iinc (v := (nI (k + 1))) (lv' := [(3, .int ((nI (k + 1)))), (0, .ref (t.2.1 0)), (1, .int ((nI v_))), (2, .ref g_)]) hx hb dX0_judge_57 hl (k := 3) rfl (nn_1 rfl) (by decide) rfl (fun ls hl => ?_)
                refine lv_goto (tgt := 22) hx hb dX0_judge_60 (by decide) ?_
                exact ih_22 ((k + 1)) _ _ ls (by omega) (by have h := he; rw [p_jgl, if_pos ⟨(isC hn hn8 (by omega)).mp c_35, c_54⟩] at h; exact h) hP hS (lv_sub hl [1, 2, 3, 0] rfl)
      exact lp_22 ((y 7 v_).toNatClampNeg) 0 _ _ ls (by omega) (rfl) hP hS (lv_sub hl [2, 3, 1, 0] rfl)
  · skip
    have hz_ : p_w (mSv y) v = some 0 := if_neg (oif_s.mp ho_2).1
    obtain ⟨-, hj_⟩ := oif_s.mp ho_2
    subst hj_
    refine cx_catch S hK hP hts_ (by decide) (by decide) ?_
    refine lv_astore_n (lv' := [(2, .ref (t.2.1 2)), (0, .ref (t.2.1 0)), (1, .int (v))]) hx hb dX0_judge_79 rfl hl (by decide) rfl (fun ls hl => ?_)
    refine lv_aload_n hx hb dX0_judge_80 rfl (lv_at hl 1 rfl) ?_
    refine lv_aload_n hx hb dX0_judge_81 rfl (lv_at hl 0 rfl) ?_
    refine cgr_finding S hK hP dX0_judge_82 ?_
    refine cc_finding S hK hP hS (rm_ok (Nat.le_of_ble_eq_true rfl)) hl.1 (0) (by decide) rfl (Nat.le_of_ble_eq_true rfl) dX0_judge_85 (fun H locs hP hS => ?_)
    exact kk_iretW S hr hlk hS (by simp only [o_judge, hz_, oW, oF, fx]; exact ⟨_, (((cJ.rf _)).j12).fnd 0, hP⟩) (by rw [o_judge, hz_]; rfl) dX0_judge_88
section CC
variable {p : Program} {l : Launch} {e : Env} {R : Room} {s : State} {m : MethodId} {args : Array Value} {below : List Frame} {meth : Method} {c : Code} {H H0 : Heap} {locs : List Loc} {cells slots : Nat} {Q : State → Prop}
variable {cc : ByteArray} {pc nL : Nat} {ls : Array Slot} {rest : List Value} {t : CT} {r : Rw} {x : Nat → Rw}
end CC

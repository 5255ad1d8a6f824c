set_option maxHeartbeats 4000000 in
set_option maxRecDepth 100000 in
theorem k_fits (l : Launch) (t : MT) (r : Rw) (x : Nat → Rw) (v : Int32) (a : Int32) (b : Nat) (hV : pV b r) (hb : b ≤ 99999) (hs : mS x) : Met l yX13_fits (ws_ yX13_fits cX13_fits 4 (some .int)) (rmF 7) (va_Pc [.ref (t.2.1 0), .int v, .int a] (fun U => mK t U ∧ mW t r x U.heap)) (kW (some (.int ((o_fits (mSv x) (x 9 3) r v a).1))) (fun H => ∃ f, mW t ((o_fits (mSv x) (x 9 3) r v a).2.1) (va_up (fx (nfx x r v a) (o_fits (mSv x) (x 9 3) r v a).2.2) 3 f) H) (mA t)) 0 0 (mA t) := by
  refine kk_start (by decide) (Nat.le_of_ble_eq_true rfl) ?_
  intro p e s m below meth c S hr hlk hin hB ls hl
  obtain ⟨hK, hP⟩ := hB
  have hx := S.1
  have hb := S.2.1
  have hown : s.vm.findClass RX13 = some m.cls := S.2.2.2.1
  have hts := S.2.2.2.2
  have hS : va_S (mA t) s.heap s.heap [] := va_S.rf
  have hl : lv_has ls 4 [(0, .ref (t.2.1 0)), (1, .int (v)), (2, .int (a))] := hl
  have hn := hV.n.1
  have hn8 := hV.n.2
  refine lv_aload_n hx hb dX13_fits_0 rfl (lv_at hl 0 rfl) ?_
  refine lv_iload_n hx hb dX13_fits_1 rfl (lv_at hl 1 rfl) ?_
  refine lv_iload_n hx hb dX13_fits_2 rfl (lv_at hl 2 rfl) ?_
  refine c_wantsFor S hK hP (rm_ok (Nat.le_of_ble_eq_true rfl)) hl.1 (Nat.le_of_ble_eq_true rfl) dX13_fits_3 ?_
  refine lv_istore_n (lv' := [(3, .int (wI (p_wf (mSv x) r v a))), (0, .ref (t.2.1 0)), (1, .int (v)), (2, .int (a))]) hx hb dX13_fits_6 rfl hl (by decide) rfl (fun ls hl => ?_)
  refine lv_iload_n hx hb dX13_fits_7 rfl (lv_at hl 0 rfl) ?_
  refine lv_if_eq (tgt := 17) hx hb dX13_fits_8 (by decide) (fun c_8 => ?_) (fun c_8 => ?_)
  · skip
    have hz_ := (wI_0 (fun _ => p_wf_lt)).mp c_8
    obtain ⟨hv4, hak, q_, hq_⟩ := p_wf_none hz_
    obtain ⟨v_, hv_, rfl⟩ := nat_of_lt (n := 4) rfl (by omega) hv4
    have hcl_v_ := nI_clamp (n := v_) (by omega)
    obtain ⟨a_, ha_, rfl⟩ := nat_of_lt (n := pN r) hn (by omega) hak
    have hcl_a_ := nI_clamp (n := a_) (by omega)
    rw [hcl_v_] at hq_
    obtain ⟨hq2, hsn, hlen⟩ := mSv_s hs hv_ hq_
    refine lv_aload_n hx hb dX13_fits_17 rfl (lv_at hl 1 rfl) ?_
    refine lv_iload_n hx hb dX13_fits_18 rfl (lv_at hl 2 rfl) ?_
    refine lv_iload_n hx hb dX13_fits_19 rfl (lv_at hl 3 rfl) ?_
    refine c_findsFits S hK hP hS (rm_ok (Nat.le_of_ble_eq_true rfl)) hl.1 (v_) (a_) (b) ((x 7 v_).toNatClampNeg) hv_ (by omega) hV (by omega) hlen hsn rfl rfl (Nat.le_of_ble_eq_true rfl) dX13_fits_20 (fun f_2 H locs hP hS => ?_)
    have hpf : p_fits (mSv x) (x 9 3) r (nI v_) (nI a_) = p_fit (p_fitP (fun u => x 8 (40 * v_ + u)) (x 7 v_).toNatClampNeg r a_) 101 (0, x 9 3) := by unfold p_fits; rw [hcl_v_, hq_, hq2, hcl_a_]
    refine lv_aload_n hx hb dX13_fits_23 rfl (lv_at hl 1 rfl) ?_
    refine mg_fitting S hK hP dX13_fits_24 ?_
    exact kk_iretW S hr hlk hS (by simp only [o_fits, nfx, hz_, oW, oK, fx, hpf]; exact ⟨_, hP⟩) (by simp only [o_fits, hz_, oW, oK, hpf]; rfl) dX13_fits_27
  · skip
    obtain ⟨z_, hz_, hz7⟩ := wI_s (fun _ => p_wf_lt) c_8
    refine lv_aload_n hx hb dX13_fits_11 rfl (lv_at hl 1 rfl) ?_
    refine lv_iload_n hx hb dX13_fits_12 rfl (lv_at hl 0 rfl) ?_
    refine c_finds S hK hP hS (rm_ok (Nat.le_of_ble_eq_true rfl)) hl.1 (z_) (by rw [hz_]; exact fnd_ix z_ hz7) hz7 (Nat.le_of_ble_eq_true rfl) dX13_fits_13 (fun H locs hP hS => ?_)
    exact kk_iretW S hr hlk hS (by simp only [o_fits, nfx, hz_, oW, oF, fx]; exact mW_a hP) (by rw [o_fits, hz_]; rfl) dX13_fits_16
set_option maxHeartbeats 4000000 in
set_option maxRecDepth 100000 in
theorem k_pealed (l : Launch) (t : MT) (r : Rw) (x : Nat → Rw) (v : Int32) (a : Int32) (b : Nat) (hV : pV b r) (hb : b ≤ 99999) (hs : mS x) : Met l yX13_pealed (ws_ yX13_pealed cX13_pealed 4 (some .int)) (rmF 7) (va_Pc [.ref (t.2.1 0), .int v, .int a] (fun U => mK t U ∧ mW t r x U.heap)) (kW (some (.int ((o_pealed (mSv x) (x 9 3) r v a).1))) (fun H => ∃ f, mW t ((o_pealed (mSv x) (x 9 3) r v a).2.1) (va_up (fx (nfx x r v a) (o_pealed (mSv x) (x 9 3) r v a).2.2) 3 f) H) (mA t)) 0 0 (mA t) := by
  refine kk_start (by decide) (Nat.le_of_ble_eq_true rfl) ?_
  intro p e s m below meth c S hr hlk hin hB ls hl
  obtain ⟨hK, hP⟩ := hB
  have hx := S.1
  have hb := S.2.1
  have hown : s.vm.findClass RX13 = some m.cls := S.2.2.2.1
  have hts := S.2.2.2.2
  have hS : va_S (mA t) s.heap s.heap [] := va_S.rf
  have hl : lv_has ls 4 [(0, .ref (t.2.1 0)), (1, .int (v)), (2, .int (a))] := hl
  have hn := hV.n.1
  have hn8 := hV.n.2
  refine lv_aload_n hx hb dX13_pealed_0 rfl (lv_at hl 0 rfl) ?_
  refine lv_iload_n hx hb dX13_pealed_1 rfl (lv_at hl 1 rfl) ?_
  refine lv_iload_n hx hb dX13_pealed_2 rfl (lv_at hl 2 rfl) ?_
  refine c_wantsFor S hK hP (rm_ok (Nat.le_of_ble_eq_true rfl)) hl.1 (Nat.le_of_ble_eq_true rfl) dX13_pealed_3 ?_
  refine lv_istore_n (lv' := [(3, .int (wI (p_wf (mSv x) r v a))), (0, .ref (t.2.1 0)), (1, .int (v)), (2, .int (a))]) hx hb dX13_pealed_6 rfl hl (by decide) rfl (fun ls hl => ?_)
  refine lv_iload_n hx hb dX13_pealed_7 rfl (lv_at hl 0 rfl) ?_
  refine lv_if_eq (tgt := 17) hx hb dX13_pealed_8 (by decide) (fun c_8 => ?_) (fun c_8 => ?_)
  · skip
    have hz_ := (wI_0 (fun _ => p_wf_lt)).mp c_8
    obtain ⟨hv4, hak, q_, hq_⟩ := p_wf_none hz_
    obtain ⟨v_, hv_, rfl⟩ := nat_of_lt (n := 4) rfl (by omega) hv4
    have hcl_v_ := nI_clamp (n := v_) (by omega)
    obtain ⟨a_, ha_, rfl⟩ := nat_of_lt (n := pN r) hn (by omega) hak
    have hcl_a_ := nI_clamp (n := a_) (by omega)
    rw [hcl_v_] at hq_
    obtain ⟨hq2, hsn, hlen⟩ := mSv_s hs hv_ hq_
    refine lv_aload_n hx hb dX13_pealed_17 rfl (lv_at hl 1 rfl) ?_
    refine lv_iload_n hx hb dX13_pealed_18 rfl (lv_at hl 2 rfl) ?_
    refine lv_iload_n hx hb dX13_pealed_19 rfl (lv_at hl 3 rfl) ?_
    refine c_findsFits S hK hP hS (rm_ok (Nat.le_of_ble_eq_true rfl)) hl.1 (v_) (a_) (b) ((x 7 v_).toNatClampNeg) hv_ (by omega) hV (by omega) hlen hsn rfl rfl (Nat.le_of_ble_eq_true rfl) dX13_pealed_20 (fun f_2 H locs hP hS => ?_)
    have hpf : p_fits (mSv x) (x 9 3) r (nI v_) (nI a_) = p_fit (p_fitP (fun u => x 8 (40 * v_ + u)) (x 7 v_).toNatClampNeg r a_) 101 (0, x 9 3) := by unfold p_fits; rw [hcl_v_, hq_, hq2, hcl_a_]
    refine lv_aload_n hx hb dX13_pealed_23 rfl (lv_at hl 1 rfl) ?_
    refine mg_fitting S hK hP dX13_pealed_24 ?_
    refine lv_if_le (tgt := 37) hx hb dX13_pealed_27 (by decide) (fun c_27 => ?_) (fun c_27 => ?_)
    · skip
      refine lv_aload_n hx hb dX13_pealed_37 rfl (lv_at hl 1 rfl) ?_
      refine lv_ldc (v := (-1000004)) hx hb hown (hts _ q1462) dX13_pealed_38 ?_
      refine c_finds S hK hP hS (rm_ok (Nat.le_of_ble_eq_true rfl)) hl.1 (3) (by decide) (by decide) (Nat.le_of_ble_eq_true rfl) dX13_pealed_40 (fun H locs hP hS => ?_)
      exact kk_iretW S hr hlk hS (by simp only [o_pealed, nfx, hz_, oW, hpf]; rw [if_neg (show ¬ 0 < (p_fit (p_fitP (fun u => x 8 (40 * v_ + u)) (x 7 v_).toNatClampNeg r a_) 101 (0, x 9 3)).1 from Int32.not_lt.mpr c_27)]; exact mW_a4 hP) (by simp only [o_pealed, hz_, oW, hpf]; rw [if_neg (show ¬ 0 < (p_fit (p_fitP (fun u => x 8 (40 * v_ + u)) (x 7 v_).toNatClampNeg r a_) 101 (0, x 9 3)).1 from Int32.not_lt.mpr c_27)]; exact (by decide : (-1000004 : Int32) = fnd 3)) dX13_pealed_43
    · skip
      refine lv_aload_n hx hb dX13_pealed_30 rfl (lv_at hl 1 rfl) ?_
      refine mg_leastFit S hK hP dX13_pealed_31 ?_
      refine lv_goto (tgt := 43) hx hb dX13_pealed_34 (by decide) ?_
      exact kk_iretW S hr hlk hS (by simp only [o_pealed, nfx, hz_, oW, hpf]; rw [if_pos (show 0 < (p_fit (p_fitP (fun u => x 8 (40 * v_ + u)) (x 7 v_).toNatClampNeg r a_) 101 (0, x 9 3)).1 from Int32.not_le.mp c_27)]; exact ⟨_, hP⟩) (by simp only [o_pealed, hz_, oW, hpf]; rw [if_pos (show 0 < (p_fit (p_fitP (fun u => x 8 (40 * v_ + u)) (x 7 v_).toNatClampNeg r a_) 101 (0, x 9 3)).1 from Int32.not_le.mp c_27)]; rfl) dX13_pealed_43
  · skip
    obtain ⟨z_, hz_, hz7⟩ := wI_s (fun _ => p_wf_lt) c_8
    refine lv_aload_n hx hb dX13_pealed_11 rfl (lv_at hl 1 rfl) ?_
    refine lv_iload_n hx hb dX13_pealed_12 rfl (lv_at hl 0 rfl) ?_
    refine c_finds S hK hP hS (rm_ok (Nat.le_of_ble_eq_true rfl)) hl.1 (z_) (by rw [hz_]; exact fnd_ix z_ hz7) hz7 (Nat.le_of_ble_eq_true rfl) dX13_pealed_13 (fun H locs hP hS => ?_)
    exact kk_iretW S hr hlk hS (by simp only [o_pealed, nfx, hz_, oW, oF, fx]; exact mW_a hP) (by rw [o_pealed, hz_]; rfl) dX13_pealed_16
set_option maxHeartbeats 4000000 in
set_option maxRecDepth 100000 in
theorem k_kinds (l : Launch) (t : MT) (r : Rw) (x : Nat → Rw) (v : Int32) (a : Int32) (b : Nat) (hV : pV b r) (hb : b ≤ 99999) (hs : mS x) : Met l yX13_kinds (ws_ yX13_kinds cX13_kinds 7 (some .int)) (rmF 6) (va_Pc [.ref (t.2.1 0), .int v, .int a] (fun U => mK t U ∧ mW t r x U.heap)) (kW (some (.int ((o_kinds (mSv x) r v a).1))) (fun H => ∃ f, mW t ((o_kinds (mSv x) r v a).2.1) (va_up (fx x (o_kinds (mSv x) r v a).2.2) 3 f) H) (mA t)) 0 0 (mA t) := by
  refine kk_start (by decide) (Nat.le_of_ble_eq_true rfl) ?_
  intro p e s m below meth c S hr hlk hin hB ls hl
  obtain ⟨hK, hP⟩ := hB
  have hx := S.1
  have hb := S.2.1
  have hown : s.vm.findClass RX13 = some m.cls := S.2.2.2.1
  have hts := S.2.2.2.2
  have hS : va_S (mA t) s.heap s.heap [] := va_S.rf
  have hl : lv_has ls 7 [(0, .ref (t.2.1 0)), (1, .int (v)), (2, .int (a))] := hl
  have hn := hV.n.1
  have hn8 := hV.n.2
  refine lv_aload_n hx hb dX13_kinds_0 rfl (lv_at hl 0 rfl) ?_
  refine lv_iload_n hx hb dX13_kinds_1 rfl (lv_at hl 1 rfl) ?_
  refine lv_iload_n hx hb dX13_kinds_2 rfl (lv_at hl 2 rfl) ?_
  refine c_wantsFor S hK hP (rm_ok (Nat.le_of_ble_eq_true rfl)) hl.1 (Nat.le_of_ble_eq_true rfl) dX13_kinds_3 ?_
  refine lv_istore_n (lv' := [(3, .int (wI (p_wf (mSv x) r v a))), (0, .ref (t.2.1 0)), (1, .int (v)), (2, .int (a))]) hx hb dX13_kinds_6 rfl hl (by decide) rfl (fun ls hl => ?_)
  refine lv_iload_n hx hb dX13_kinds_7 rfl (lv_at hl 0 rfl) ?_
  refine lv_if_eq (tgt := 17) hx hb dX13_kinds_8 (by decide) (fun c_8 => ?_) (fun c_8 => ?_)
  · skip
    have hz_ := (wI_0 (fun _ => p_wf_lt)).mp c_8
    obtain ⟨hv4, hak, q_, hq_⟩ := p_wf_none hz_
    obtain ⟨v_, hv_, rfl⟩ := nat_of_lt (n := 4) rfl (by omega) hv4
    have hcl_v_ := nI_clamp (n := v_) (by omega)
    obtain ⟨a_, ha_, rfl⟩ := nat_of_lt (n := pN r) hn (by omega) hak
    have hcl_a_ := nI_clamp (n := a_) (by omega)
    rw [hcl_v_] at hq_
    obtain ⟨hq2, hsn, hlen⟩ := mSv_s hs hv_ hq_
    have hpf : lp (p_kdf (fun u => x 8 (40 * v_ + u)) (x 7 v_).toNatClampNeg r a_) 7 0 0 = p_kds (mSv x) r (nI v_) (nI a_) := by unfold p_kds; rw [hcl_v_, hq_, hq2, hcl_a_]
    refine lv_aload_n hx hb dX13_kinds_17 rfl (lv_at hl 1 rfl) ?_
    refine lv_iload_n hx hb dX13_kinds_18 rfl (lv_at hl 3 rfl) ?_
    refine lv_iconst (v := 0) hx hb dX13_kinds_19 (by decide) ?_
    refine c_its S hK hP (rm_ok (Nat.le_of_ble_eq_true rfl)) hl.1 (a_) (0) (by omega) (by omega) rfl rfl (Nat.le_of_ble_eq_true rfl) dX13_kinds_20 ?_
    refine lv_istore (lv' := [(4, .int (r (16 + 7 * a_ + 0))), (3, .int (wI (p_wf (mSv x) r (nI v_) (nI a_)))), (0, .ref (t.2.1 0)), (1, .int ((nI v_))), (2, .int ((nI a_)))]) hx hb dX13_kinds_23 hl (by decide) rfl (fun ls hl => ?_)
    refine lv_iconst (v := 0) hx hb dX13_kinds_25 (by decide) ?_
    refine lv_istore (lv' := [(5, .int (0)), (4, .int (r (16 + 7 * a_ + 0))), (3, .int (wI (p_wf (mSv x) r (nI v_) (nI a_)))), (0, .ref (t.2.1 0)), (1, .int ((nI v_))), (2, .int ((nI a_)))]) hx hb dX13_kinds_26 hl (by decide) rfl (fun ls hl => ?_)
    refine lv_iconst (v := 0) hx hb dX13_kinds_28 (by decide) ?_
    refine lv_istore (lv' := [(6, .int (0)), (5, .int (0)), (4, .int (r (16 + 7 * a_ + 0))), (3, .int (wI (p_wf (mSv x) r (nI v_) (nI a_)))), (0, .ref (t.2.1 0)), (1, .int ((nI v_))), (2, .int ((nI a_)))]) hx hb dX13_kinds_29 hl (by decide) rfl (fun ls hl => ?_)
    have lp_31 : ∀ (j w : Nat) (y : Nat) (r1 : Rw) (x1 : Nat → Rw) (H : Heap) (locs : List Loc) (ls : Array Slot), w + j = 7 → (lp (p_kdf (fun u => x 8 (40 * v_ + u)) (x 7 v_).toNatClampNeg r a_) j w y = p_kds (mSv x) r (nI v_) (nI a_)) → (∃ u, r1 = upd r (16 + 7 * a_ + 0) u) → (∃ f, x1 = va_up x 3 f) → mW t (r1) (x1) H → va_S (mA t) s.heap H locs → lv_has ls 7 [(0, .ref (t.2.1 0)), (1, .int ((nI v_))), (2, .int ((nI a_))), (4, .int (r (16 + 7 * a_ + 0))), (5, .int ((nI y))), (6, .int ((nI w)))] → W p l e (rmF 6) s m ([.ref (t.2.1 0), .int (nI v_), .int (nI a_)] : List Value).toArray below meth c H locs 0 0 (MQ below (kW (some (.int ((o_kinds (mSv x) r (nI v_) (nI a_)).1))) (fun H => ∃ f, mW t ((o_kinds (mSv x) r (nI v_) (nI a_)).2.1) (va_up (fx x (o_kinds (mSv x) r (nI v_) (nI a_)).2.2) 3 f) H) (mA t)) ([.ref (t.2.1 0), .int (nI v_), .int (nI a_)] : List Value).toArray s 0 0 (mA t)) (F0 m 31 ls []) := by
      intro j
      induction j with
      | zero =>
        intro w y r1 x1 H locs ls hkj he hr1 hx1 hP hS hl
        obtain ⟨u1, rfl⟩ := hr1
        obtain ⟨f1, rfl⟩ := hx1
        refine lv_iload hx hb dX13_kinds_31 (lv_at hl 5 rfl) ?_
        refine lv_bipush (v := 6) hx hb dX13_kinds_33 (by decide) ?_
        refine kb_gt_n (tgt := 82) (a := w) (b := 6) S rfl rfl (by omega) (by omega) dX13_kinds_35 (by decide) (fun c_35 => ?_) (fun c_35 => ?_)
        · skip
          refine lv_aload_n hx hb dX13_kinds_82 rfl (lv_at hl 0 rfl) ?_
          refine mg_s S hK hP dX13_kinds_83 ?_
          refine lv_iload_n hx hb dX13_kinds_86 rfl (lv_at hl 2 rfl) ?_
          refine lv_iconst (v := 0) hx hb dX13_kinds_87 (by decide) ?_
          refine c_at S (rm_ok (Nat.le_of_ble_eq_true rfl)) hl.1 (a_) (0) rfl rfl (Nat.le_of_ble_eq_true rfl) dX13_kinds_88 ?_
          refine lv_iload hx hb dX13_kinds_91 (lv_at hl 3 rfl) ?_
          refine mk_sts S hK hP hS ((16 + 7 * a_ + 0)) (by omega) rfl dX13_kinds_93 (fun H locs hP hS => ?_)
          rw [up_up, up_eta] at hP
          refine lv_iload hx hb dX13_kinds_94 (lv_at hl 4 rfl) ?_
          exact kk_iretW S hr hlk hS (by simp only [o_kinds, hz_, oW, oK, fx]; exact ⟨_, hP⟩) (by simp only [o_kinds, hz_, oW, oK]; rw [← he]; rfl) dX13_kinds_96
        · exact absurd c_35 (by omega)
      | succ j ih =>
        intro w y r1 x1 H locs ls hkj he hr1 hx1 hP hS hl
        have ih_31 := ih
        obtain ⟨u1, rfl⟩ := hr1
        obtain ⟨f1, rfl⟩ := hx1
        refine lv_iload hx hb dX13_kinds_31 (lv_at hl 5 rfl) ?_
        refine lv_bipush (v := 6) hx hb dX13_kinds_33 (by decide) ?_
        refine kb_gt_n (tgt := 82) (a := w) (b := 6) S rfl rfl (by omega) (by omega) dX13_kinds_35 (by decide) (fun c_35 => ?_) (fun c_35 => ?_)
        · exact absurd c_35 (by omega)
        · skip
          refine lv_aload_n hx hb dX13_kinds_38 rfl (lv_at hl 0 rfl) ?_
          refine mg_s S hK hP dX13_kinds_39 ?_
          refine lv_iload_n hx hb dX13_kinds_42 rfl (lv_at hl 2 rfl) ?_
          refine lv_iconst (v := 0) hx hb dX13_kinds_43 (by decide) ?_
          refine c_at S (rm_ok (Nat.le_of_ble_eq_true rfl)) hl.1 (a_) (0) rfl rfl (Nat.le_of_ble_eq_true rfl) dX13_kinds_44 ?_
          refine lv_iload hx hb dX13_kinds_47 (lv_at hl 5 rfl) ?_
          refine mk_sts S hK hP hS ((16 + 7 * a_ + 0)) (by omega) rfl dX13_kinds_49 (fun H locs hP hS => ?_)
          rw [up_up] at hP
          refine lv_iload hx hb dX13_kinds_50 (lv_at hl 4 rfl) ?_
          refine lv_aload_n hx hb dX13_kinds_52 rfl (lv_at hl 0 rfl) ?_
          refine lv_iload_n hx hb dX13_kinds_53 rfl (lv_at hl 1 rfl) ?_
          refine lv_iload_n hx hb dX13_kinds_54 rfl (lv_at hl 2 rfl) ?_
          refine lv_iconst (v := 2) hx hb dX13_kinds_55 (by decide) ?_
          refine c_at S (rm_ok (Nat.le_of_ble_eq_true rfl)) hl.1 (a_) (2) rfl rfl (Nat.le_of_ble_eq_true rfl) dX13_kinds_56 ?_
          refine c_isTold S hK hP hS (rm_ok (Nat.le_of_ble_eq_true rfl)) hl.1 (v_) ((16 + 7 * a_ + 2)) (b) ((x 7 v_).toNatClampNeg) hv_ (by omega) (pV_set hV (by omega) (by omega) (fun _ => by omega) (fun z => absurd z (by decide))) (by omega) hlen hsn rfl rfl (Nat.le_of_ble_eq_true rfl) dX13_kinds_59 (fun H locs hP hS => ?_)
          refine kb_ifeq (tgt := 72) S dX13_kinds_62 (by decide) (fun c_62 => ?_) (fun c_62 => ?_)
          · skip
            refine lv_iconst (v := 0) hx hb dX13_kinds_72 (by decide) ?_
            refine lv_ior hx hb dX13_kinds_73 ?_
            refine kb_nat (y := nI ((y ||| 0))) (nn_or rfl rfl) ?_
            refine lv_istore (lv' := [(5, .int ((nI (y ||| 0)))), (0, .ref (t.2.1 0)), (1, .int ((nI v_))), (2, .int ((nI a_))), (4, .int (r (16 + 7 * a_ + 0))), (6, .int ((nI w)))]) hx hb dX13_kinds_74 hl (by decide) rfl (fun ls hl => ?_)
            refine lv_iinc (v := (nI (w + 1))) (lv' := [(6, .int ((nI (w + 1)))), (5, .int ((nI (y ||| 0)))), (0, .ref (t.2.1 0)), (1, .int ((nI v_))), (2, .int ((nI a_))), (4, .int (r (16 + 7 * a_ + 0)))]) hx hb dX13_kinds_76 hl (k := 5) rfl (nn_1 rfl) (by decide) rfl (fun ls hl => ?_)
            refine lv_goto (tgt := 31) hx hb dX13_kinds_79 (by decide) ?_
            exact ih_31 ((w + 1)) ((y ||| 0)) _ _ _ _ ls (by omega) (by have h := he; rw [lp, p_kdf, if_neg (show ¬ p_ist (fun u => x 8 (40 * v_ + u)) (x 7 v_).toNatClampNeg (16 + 7 * a_ + 2) (upd r (16 + 7 * a_ + 0) (nI w)) = true from c_62)] at h; exact h) (⟨_, rfl⟩) (⟨_, bx_uu _ _ _ _⟩) hP hS (lv_sub hl [2, 3, 4, 5, 1, 0] rfl)
          · skip
            refine lv_iconst (v := 1) hx hb dX13_kinds_65 (by decide) ?_
            refine lv_iload hx hb dX13_kinds_66 (lv_at hl 5 rfl) ?_
            refine lv_ishl hx hb dX13_kinds_68 ?_
            refine lv_goto (tgt := 73) hx hb dX13_kinds_69 (by decide) ?_
            refine lv_ior hx hb dX13_kinds_73 ?_
            refine kb_nat (y := nI ((y ||| (2 ^ w)))) (nn_or rfl (nn_shl1 _ (by omega))) ?_
            refine lv_istore (lv' := [(5, .int ((nI (y ||| (2 ^ w))))), (0, .ref (t.2.1 0)), (1, .int ((nI v_))), (2, .int ((nI a_))), (4, .int (r (16 + 7 * a_ + 0))), (6, .int ((nI w)))]) hx hb dX13_kinds_74 hl (by decide) rfl (fun ls hl => ?_)
            refine lv_iinc (v := (nI (w + 1))) (lv' := [(6, .int ((nI (w + 1)))), (5, .int ((nI (y ||| (2 ^ w))))), (0, .ref (t.2.1 0)), (1, .int ((nI v_))), (2, .int ((nI a_))), (4, .int (r (16 + 7 * a_ + 0)))]) hx hb dX13_kinds_76 hl (k := 5) rfl (nn_1 rfl) (by decide) rfl (fun ls hl => ?_)
            refine lv_goto (tgt := 31) hx hb dX13_kinds_79 (by decide) ?_
            exact ih_31 ((w + 1)) ((y ||| (2 ^ w))) _ _ _ _ ls (by omega) (by have h := he; rw [lp, p_kdf, if_pos (show p_ist (fun u => x 8 (40 * v_ + u)) (x 7 v_).toNatClampNeg (16 + 7 * a_ + 2) (upd r (16 + 7 * a_ + 0) (nI w)) = true from c_62)] at h; exact h) (⟨_, rfl⟩) (⟨_, bx_uu _ _ _ _⟩) hP hS (lv_sub hl [2, 3, 4, 5, 1, 0] rfl)
    exact lp_31 7 0 (0) _ _ _ _ ls (by omega) (hpf) (⟨_, (up_eta r _).symm⟩) (⟨_, (va_eta x 3).symm⟩) hP hS (lv_sub hl [4, 5, 6, 2, 1, 0] rfl)
  · skip
    obtain ⟨z_, hz_, hz7⟩ := wI_s (fun _ => p_wf_lt) c_8
    refine lv_aload_n hx hb dX13_kinds_11 rfl (lv_at hl 1 rfl) ?_
    refine lv_iload_n hx hb dX13_kinds_12 rfl (lv_at hl 0 rfl) ?_
    refine c_finds S hK hP hS (rm_ok (Nat.le_of_ble_eq_true rfl)) hl.1 (z_) (by rw [hz_]; exact fnd_ix z_ hz7) hz7 (Nat.le_of_ble_eq_true rfl) dX13_kinds_13 (fun H locs hP hS => ?_)
    exact kk_iretW S hr hlk hS (by simp only [o_kinds, hz_, oW, oF, fx]; exact mW_a hP) (by rw [o_kinds, hz_]; rfl) dX13_kinds_16

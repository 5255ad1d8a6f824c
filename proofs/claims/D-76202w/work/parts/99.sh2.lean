section CC
variable {p : Program} {l : Launch} {e : Env} {R : Room} {s : State} {m : MethodId} {args : Array Value} {below : List Frame} {meth : Method} {c : Code} {H H0 : Heap} {locs : List Loc} {cells slots : Nat} {Q : State → Prop}
variable {cc : ByteArray} {pc nL : Nat} {ls : Array Slot} {rest : List Value} {t : CT} {r : Rw} {x : Nat → Rw} {y : Nat → Rw}
theorem cc_need1 (S : CallFix p m c cc nL s args lw_all RX0) (hK : cK t s) (hP : cX t r x H) (hS : va_S (cA t) H0 H locs) (hR : kRm R 2 cells slots) (hsz : ls.size = nL) (j : Nat) (hj : j < 7) {i1 : Int32} (e1 : i1 = nI j) (hrest : (rest.map fun v => v.category).sum ≤ 8) (hdg : decode cc pc = .ok (.invokevirtual 302, 3)) (kk : ∀ (H1 : Heap) (locs1 : List Loc), cX t r x H1 → va_S (cA t) H0 H1 locs1 → W p l e R s m args below meth c H1 locs1 cells slots Q (F0 m (pc + 3) ls rest)) : W p l e R s m args below meth c H locs cells slots Q (F0 m pc ls (.int i1 :: .int 1 :: .ref (t.2.1 0) :: rest)) :=
  cc_need S hK hP hS hR hsz (P := True) j hj e1 hrest hdg (fun _ => kk) (fun _ h => by cases h)
theorem cc_need0 (S : CallFix p m c cc nL s args lw_all RX0) (hK : cK t s) (hP : cX t r x H) (hS : va_S (cA t) H0 H locs) (hR : kRm R 2 cells slots) (hsz : ls.size = nL) (j : Nat) (hj : j < 7) {i1 : Int32} (e1 : i1 = nI j) (hrest : (rest.map fun v => v.category).sum ≤ 8) (hdg : decode cc pc = .ok (.invokevirtual 302, 3)) (kt : ∀ (H1 : Heap) (locs1 : List Loc), cX t r (va_up x 12 (upd (x 12) 0 (nI j))) H1 → va_S (cA t) H0 H1 locs1 → WT p l e R s m args below meth c H1 locs1 cells slots Q (F0 m pc ls rest) (t.2.1 2)) : W p l e R s m args below meth c H locs cells slots Q (F0 m pc ls (.int i1 :: .int 0 :: .ref (t.2.1 0) :: rest)) :=
  cc_need S hK hP hS hR hsz (P := False) j hj e1 hrest hdg (fun h => by cases h) (fun _ h => by cases h; exact kt)
end CC
theorem fit_c (x : Nat → Rw) {f g : Rw} {le v : Int32} : ∃ h, va_up (va_up (va_up (va_up x 9 (upd (x 9) 2 le)) 3 f) 3 g) 9 (upd (va_up (va_up (va_up x 9 (upd (x 9) 2 le)) 3 f) 3 g 9) 2 v) = va_up (va_up x 9 (upd (x 9) 2 v)) 3 h := by
  refine ⟨g, ?_⟩
  funext q
  by_cases h9 : q = 9
  · subst h9
    funext z
    simp only [va_up, upd]
    by_cases z2 : z = 2
    · subst z2; simp [upd]
    · simp [upd, z2]
  · by_cases h3 : q = 3
    · subst h3; simp [va_up]
    · simp [va_up, h9, h3]
theorem fit_c0 (x : Nat → Rw) : ∃ f, x = va_up (va_up x 9 (upd (x 9) 2 (x 9 2))) 3 f := ⟨x 3, by rw [up_eta, va_eta, va_eta]⟩
set_option maxHeartbeats 4000000 in
set_option maxRecDepth 100000 in
theorem k0_rowFor (l : Launch) (t : CT) (r : Rw) (x : Nat → Rw) (y : Nat → Rw) (v : Int32) (a : Int32) (b : Nat) (hV : pV b r) : MetX l yX0_rowFor (ws_ yX0_rowFor cX0_rowFor 4 (some (.object "java/lang/Object"))) (rmF 3) (va_Pc [.ref (t.2.1 0), .int v, .int a] (fun U => cK t U ∧ cX t r x U.heap ∧ cSh t y U.heap)) (kX (cOx t (p_wf (mSv y) r v a) (some (va_rf (cG t v.toNatClampNeg)))) (cX t r (cIx x (p_wf (mSv y) r v a))) (cA t)) 0 0 (cA t) := by
  refine kk_startX (by decide) (Nat.le_of_ble_eq_true rfl) ?_
  intro p e s m below meth c S hr hlk hin hB ls hl
  obtain ⟨hK, hP⟩ := hB
  have hx := S.1
  have hb := S.2.1
  have hown : s.vm.findClass RX0 = some m.cls := S.2.2.2.1
  have hts := S.2.2.2.2
  have hS : va_S (cA t) s.heap s.heap [] := va_S.rf
  have hl : lv_has ls 4 [(0, .ref (t.2.1 0)), (1, .int (v)), (2, .int (a))] := hl
  obtain ⟨hP, hQ⟩ := hP
  refine lv_aload_n hx hb dX0_rowFor_0 rfl (lv_at hl 0 rfl) ?_
  refine lv_iload_n hx hb dX0_rowFor_1 rfl (lv_at hl 1 rfl) ?_
  refine cc_rowAt S hK hP hS (rm_ok (Nat.le_of_ble_eq_true rfl)) hl.1 (Nat.le_of_ble_eq_true rfl) dX0_rowFor_2 (fun ho_2 H locs hP hS => ?_) (fun j_2 ho_2 H locs hP hS => ?_)
  · skip
    have hv4 := oif_n.mp ho_2
    obtain ⟨v_, hv_, rfl⟩ := nat_of_lt (n := 4) rfl (by omega) hv4
    have hcl_v_ := nI_clamp (n := v_) (by omega)
    rcases hg : cG t v_ with _ | g_
    · skip
      refine kb_val (y := .null) (by rw [hcl_v_, hg]; rfl) ?_
      refine lv_astore_nN (lv' := [(3, .null), (0, .ref (t.2.1 0)), (1, .int ((nI v_))), (2, .int (a))]) hx hb dX0_rowFor_5 rfl hl (by decide) rfl (fun ls hl => ?_)
      refine lv_aload_n hx hb dX0_rowFor_6 rfl (lv_at hl 1 rfl) ?_
      refine lv_aload_nN hx hb dX0_rowFor_7 rfl (lv_at hl 0 rfl) ?_
      refine lv_ifnullN (tgt := 15) hx hb dX0_rowFor_8 (by decide) ?_
      refine lv_iconst (v := 0) hx hb dX0_rowFor_15 (by decide) ?_
      refine lv_iconst (v := 5) hx hb dX0_rowFor_16 (by decide) ?_
      refine cc_need0 S hK hP hS (rm_ok (Nat.le_of_ble_eq_true rfl)) hl.1 (5) (by decide) rfl (Nat.le_of_ble_eq_true rfl) dX0_rowFor_17 (fun H locs hP hS => ?_)
      rw [show p_wf (mSv y) r (nI v_) a = some 5 by rw [p_wf, if_pos hv4, hcl_v_, hQ.nn hv_ hg]]
      exact cx_out hin hlk hS hP
    · skip
      refine kb_val (y := .ref g_) (by rw [hcl_v_, hg]; rfl) ?_
      refine lv_astore_n (lv' := [(3, .ref g_), (0, .ref (t.2.1 0)), (1, .int ((nI v_))), (2, .int (a))]) hx hb dX0_rowFor_5 rfl hl (by decide) rfl (fun ls hl => ?_)
      refine lv_aload_n hx hb dX0_rowFor_6 rfl (lv_at hl 1 rfl) ?_
      refine lv_aload_n hx hb dX0_rowFor_7 rfl (lv_at hl 0 rfl) ?_
      refine lv_ifnull hx hb dX0_rowFor_8 ?_
      refine lv_iconst (v := 1) hx hb dX0_rowFor_11 (by decide) ?_
      refine lv_goto (tgt := 16) hx hb dX0_rowFor_12 (by decide) ?_
      refine lv_iconst (v := 5) hx hb dX0_rowFor_16 (by decide) ?_
      refine cc_need1 S hK hP hS (rm_ok (Nat.le_of_ble_eq_true rfl)) hl.1 (5) (by decide) rfl (Nat.le_of_ble_eq_true rfl) dX0_rowFor_17 (fun H locs hP hS => ?_)
      refine lv_aload_n hx hb dX0_rowFor_20 rfl (lv_at hl 1 rfl) ?_
      refine lv_aload_n hx hb dX0_rowFor_21 rfl (lv_at hl 1 rfl) ?_
      refine lv_iload_n hx hb dX0_rowFor_22 rfl (lv_at hl 3 rfl) ?_
      refine cc_isCask S hK hP (rm_ok (Nat.le_of_ble_eq_true rfl)) hl.1 (b) hV (Nat.le_of_ble_eq_true rfl) dX0_rowFor_23 ?_
      refine lv_iconst (v := 0) hx hb dX0_rowFor_26 (by decide) ?_
      refine cc_need S hK hP hS (rm_ok (Nat.le_of_ble_eq_true rfl)) hl.1 (0) (by omega) rfl (Nat.le_of_ble_eq_true rfl) dX0_rowFor_27 (fun ho_27 H locs hP hS => ?_) (fun j_27 ho_27 H locs hP hS => ?_)
      · skip
        have hz_ : p_wf (mSv y) r (nI v_) a = none := by rw [p_wf, if_pos hv4, hcl_v_, hQ.sm hv_ hg]; exact if_pos (oif_n.mp ho_27)
        refine lv_aload_n hx hb dX0_rowFor_30 rfl (lv_at hl 0 rfl) ?_
        rw [hz_, hcl_v_, hg]; exact kk_aretX S hr (Or.inl ⟨_, rfl⟩) (Or.inr ⟨_, rfl⟩) hlk hS hP dX0_rowFor_31
      · skip
        obtain ⟨hak, hj_⟩ := oif_s.mp ho_27
        subst hj_
        rw [show p_wf (mSv y) r (nI v_) a = some 0 by rw [p_wf, if_pos hv4, hcl_v_, hQ.sm hv_ hg]; exact if_neg hak]
        exact cx_out hin hlk hS hP
  · skip
    obtain ⟨hv4, hj_⟩ := oif_s.mp ho_2
    subst hj_
    rw [show p_wf (mSv y) r v a = some 0 from if_neg hv4]
    exact cx_out hin hlk hS hP
section CC
variable {p : Program} {l : Launch} {e : Env} {R : Room} {s : State} {m : MethodId} {args : Array Value} {below : List Frame} {meth : Method} {c : Code} {H H0 : Heap} {locs : List Loc} {cells slots : Nat} {Q : State → Prop}
variable {cc : ByteArray} {pc nL : Nat} {ls : Array Slot} {rest : List Value} {t : CT} {r : Rw} {x : Nat → Rw}
theorem cc_rowFor {y : Nat → Rw} (S : CallFix p m c cc nL s args lw_all RX0) (hK : cK t s) (hP : cX t r x H) (hQ : cSh t y H) (hS : va_S (cA t) H0 H locs) (hR : kRm R 4 cells slots) (hsz : ls.size = nL) {v : Int32} {a : Int32} (b : Nat) (hV : pV b r) (hrest : (rest.map fun v => v.category).sum ≤ 8) (hdg : decode cc pc = .ok (.invokevirtual 313, 3)) (kr : (p_wf (mSv y) r v a) = none → ∀ (H1 : Heap) (locs1 : List Loc), cX t r x H1 → va_S (cA t) H0 H1 locs1 → W p l e R s m args below meth c H1 locs1 cells slots Q (F0 m (pc + 3) ls (va_rf (cG t v.toNatClampNeg) :: rest))) (kt : ∀ jj, (p_wf (mSv y) r v a) = some jj → ∀ (H1 : Heap) (locs1 : List Loc), cX t r (va_up x 12 (upd (x 12) 0 (nI jj))) H1 → va_S (cA t) H0 H1 locs1 → WT p l e R s m args below meth c H1 locs1 cells slots Q (F0 m pc ls rest) (t.2.1 2)) : W p l e R s m args below meth c H locs cells slots Q (F0 m pc ls (.int a :: .int v :: .ref (t.2.1 0) :: rest)) := by
  exact kk_O (W.runX (As := [.int v, .int a]) (rest := rest) (maxL := 4) S (k0_rowFor l t r x y v a b hV) rfl rfl hR.1 (by have := hR.2.1; show 8 + (4 + 11) + 38 * 3 ≤ R.locals; omega) (pay_in S.2.2.2.2 (lw_meth q940)) (fun U hW => LocX.code (pay_in S.2.2.2.2 (lw_meth q940) _ List.mem_cons_self #[] U hW)) (S.2.2.2.2 _ q101) ⟨by decide, by decide⟩ (show (parseMethodDescriptor yX0_rowFor.desc).map (fun d => d.parameters.length) = some 2 from by decide +kernel) (S.2.2.2.2 _ q937) (S.2.2.2.2 _ q939) (S.2.2.2.2 _ qs30) ⟨cS_blind, c_recv hK hP, cS_pre hK hP hQ⟩ rfl hsz rfl (lv_room hrest) hdg ⟨hR.2.2.1, hR.2.2.2⟩) hS (fun _ h => h) (fun _ h => h) kr kt
end CC
set_option maxHeartbeats 4000000 in
set_option maxRecDepth 100000 in
theorem k0_wasSoC (l : Launch) (t : CT) (r : Rw) (x : Nat → Rw) (y : Nat → Rw) (a : Nat) (k : Int32) (v : Nat) (b : Nat) (hv : v < 4) (hg : cG t v = some a) (hV : pV b r) (hb : b < 2 ^ 29) (hk : k = -1) : Met l yX0_wasSo (wsW_ yX0_wasSo cX0_wasSo 6 (some .boolean) [(11, 93, 107, 0), (107, 109, 107, 0)]) (rmF 8) (va_Pc [.ref (t.2.1 0), .ref a, .int k] (fun U => cK t U ∧ cX t r x U.heap ∧ cSh t y U.heap)) (kW (some (.int (b2i (p_ist (fun u => y 8 (40 * v + u)) (y 7 v).toNatClampNeg 3 r = true)))) (cX t (r) (va_up x 3 r)) (cA t)) 0 0 (cA t) := by
  refine kk_startW (by decide) (Nat.le_of_ble_eq_true rfl) ?_
  intro p e s m below meth c S hr hlk hts_ hB ls hl
  obtain ⟨hK, hP⟩ := hB
  have hx := S.1
  have hb := S.2.1
  have hown : s.vm.findClass RX0 = some m.cls := S.2.2.2.1
  have hts := S.2.2.2.2
  have hS : va_S (cA t) s.heap s.heap [] := va_S.rf
  have hl : lv_has ls 6 [(0, .ref (t.2.1 0)), (1, .ref a), (2, .int (k))] := hl
  obtain ⟨hP, hQ⟩ := hP
  obtain ⟨hn7, hn40⟩ := (hQ.row hv hg).len
  refine lv_aload_n hx hb dX0_wasSo_0 rfl (lv_at hl 0 rfl) ?_
  refine cg_aside S hK hP dX0_wasSo_1 ?_
  refine lv_aload_n hx hb dX0_wasSo_4 rfl (lv_at hl 0 rfl) ?_
  refine cg_d S hK hP dX0_wasSo_5 ?_
  refine cb_aside_d S hK hP hS (fun _ h => h) (rm_ok (Nat.le_of_ble_eq_true rfl)) hl.1 (Nat.le_of_ble_eq_true rfl) dX0_wasSo_8 (fun H locs hP hS => ?_)
  refine lv_iconst (v := 1) hx hb dX0_wasSo_11 (by decide) ?_
  refine lv_istore_n (lv' := [(3, .int (1)), (0, .ref (t.2.1 0)), (1, .ref a), (2, .int (k))]) hx hb dX0_wasSo_12 rfl hl (by decide) rfl (fun ls hl => ?_)
  refine lv_iconst (v := 0) hx hb dX0_wasSo_13 (by decide) ?_
  refine lv_istore (lv' := [(4, .int (0)), (3, .int (1)), (0, .ref (t.2.1 0)), (1, .ref a), (2, .int (k))]) hx hb dX0_wasSo_14 hl (by decide) rfl (fun ls hl => ?_)
  have lp_16 : ∀ (j k_ : Nat) (q : Bool) (r1 : Rw) (H : Heap) (locs : List Loc) (ls : Array Slot), k_ + j = (y 7 v).toNatClampNeg → ((q && p_tf (fun u => y 8 (40 * v + u)) 3 j k_ r1) = p_ist (fun u => y 8 (40 * v + u)) (y 7 v).toNatClampNeg 3 r) → (pV (b + k_) r1) → cX t (r1) ((va_up x 3 r)) H → va_S (cA t) s.heap H locs → lv_has ls 6 [(0, .ref (t.2.1 0)), (1, .ref a), (2, .int (k)), (3, .int ((b2i (q = true)))), (4, .int ((nI k_)))] → W p l e (rmF 8) s m ([.ref (t.2.1 0), .ref a, .int k] : List Value).toArray below meth c H locs 0 0 (MQ below (kW (some (.int (b2i (p_ist (fun u => y 8 (40 * v + u)) (y 7 v).toNatClampNeg 3 r = true)))) (cX t (r) (va_up x 3 r)) (cA t)) ([.ref (t.2.1 0), .ref a, .int k] : List Value).toArray s 0 0 (cA t)) (F0 m 16 ls []) := by
    intro j
    induction j with
    | zero =>
      intro k_ q r1 H locs ls hkj he hV1 hP hS hl
      refine lv_iload_n hx hb dX0_wasSo_16 rfl (lv_at hl 3 rfl) ?_
      refine kb_ifeq (tgt := 90) S dX0_wasSo_17 (by decide) (fun c_17 => ?_) (fun c_17 => ?_)
      · skip
        refine lv_iload_n hx hb dX0_wasSo_90 rfl (lv_at hl 3 rfl) ?_
        refine lv_istore (lv' := [(4, .int ((b2i (q = true)))), (0, .ref (t.2.1 0)), (1, .ref a), (2, .int (k)), (3, .int ((b2i (q = true))))]) hx hb dX0_wasSo_91 hl (by decide) rfl (fun ls hl => ?_)
        refine lv_aload_n hx hb dX0_wasSo_93 rfl (lv_at hl 1 rfl) ?_
        refine cg_d S hK hP dX0_wasSo_94 ?_
        refine lv_aload_n hx hb dX0_wasSo_97 rfl (lv_at hl 1 rfl) ?_
        refine cg_aside S hK hP dX0_wasSo_98 ?_
        refine cb_d_aside S hK hP hS (fun _ h => h) (rm_ok (Nat.le_of_ble_eq_true rfl)) hl.1 (Nat.le_of_ble_eq_true rfl) dX0_wasSo_101 (fun H locs hP hS => ?_)
        refine lv_iload hx hb dX0_wasSo_104 (lv_at hl 0 rfl) ?_
        exact kk_zretW S hr hlk hS (hP) (by rw [← he]; simp [p_tf]) dX0_wasSo_106
      · skip
        refine lv_iload hx hb dX0_wasSo_20 (lv_at hl 4 rfl) ?_
        refine lv_aload_n hx hb dX0_wasSo_22 rfl (lv_at hl 1 rfl) ?_
        refine cc_length S hK hP (hQ.keep hS) (rm_ok (Nat.le_of_ble_eq_true rfl)) hl.1 (v) hv hg (Nat.le_of_ble_eq_true rfl) dX0_wasSo_23 ?_
        refine kb_ge_n (tgt := 90) (a := k_) (b := (y 7 v).toNatClampNeg) S rfl hn7 (by omega) (by omega) dX0_wasSo_26 (by decide) (fun c_26 => ?_) (fun c_26 => ?_)
        · skip
          refine lv_iload_n hx hb dX0_wasSo_90 rfl (lv_at hl 3 rfl) ?_
          refine lv_istore (lv' := [(4, .int ((b2i (q = true)))), (0, .ref (t.2.1 0)), (1, .ref a), (2, .int (k)), (3, .int ((b2i (q = true))))]) hx hb dX0_wasSo_91 hl (by decide) rfl (fun ls hl => ?_)
          refine lv_aload_n hx hb dX0_wasSo_93 rfl (lv_at hl 1 rfl) ?_
          refine cg_d S hK hP dX0_wasSo_94 ?_
          refine lv_aload_n hx hb dX0_wasSo_97 rfl (lv_at hl 1 rfl) ?_
          refine cg_aside S hK hP dX0_wasSo_98 ?_
          refine cb_d_aside S hK hP hS (fun _ h => h) (rm_ok (Nat.le_of_ble_eq_true rfl)) hl.1 (Nat.le_of_ble_eq_true rfl) dX0_wasSo_101 (fun H locs hP hS => ?_)
          refine lv_iload hx hb dX0_wasSo_104 (lv_at hl 0 rfl) ?_
          exact kk_zretW S hr hlk hS (hP) (by rw [← he]; simp [p_tf]) dX0_wasSo_106
        · exact absurd c_26 (by omega)
    | succ j ih =>
      intro k_ q r1 H locs ls hkj he hV1 hP hS hl
      have ih_16 := ih
      refine lv_iload_n hx hb dX0_wasSo_16 rfl (lv_at hl 3 rfl) ?_
      refine kb_ifeq (tgt := 90) S dX0_wasSo_17 (by decide) (fun c_17 => ?_) (fun c_17 => ?_)
      · skip
        refine lv_iload_n hx hb dX0_wasSo_90 rfl (lv_at hl 3 rfl) ?_
        refine lv_istore (lv' := [(4, .int ((b2i (q = true)))), (0, .ref (t.2.1 0)), (1, .ref a), (2, .int (k)), (3, .int ((b2i (q = true))))]) hx hb dX0_wasSo_91 hl (by decide) rfl (fun ls hl => ?_)
        refine lv_aload_n hx hb dX0_wasSo_93 rfl (lv_at hl 1 rfl) ?_
        refine cg_d S hK hP dX0_wasSo_94 ?_
        refine lv_aload_n hx hb dX0_wasSo_97 rfl (lv_at hl 1 rfl) ?_
        refine cg_aside S hK hP dX0_wasSo_98 ?_
        refine cb_d_aside S hK hP hS (fun _ h => h) (rm_ok (Nat.le_of_ble_eq_true rfl)) hl.1 (Nat.le_of_ble_eq_true rfl) dX0_wasSo_101 (fun H locs hP hS => ?_)
        refine lv_iload hx hb dX0_wasSo_104 (lv_at hl 0 rfl) ?_
        exact kk_zretW S hr hlk hS (hP) (by rw [← he]; simp [c_17]) dX0_wasSo_106
      · skip
        refine lv_iload hx hb dX0_wasSo_20 (lv_at hl 4 rfl) ?_
        refine lv_aload_n hx hb dX0_wasSo_22 rfl (lv_at hl 1 rfl) ?_
        refine cc_length S hK hP (hQ.keep hS) (rm_ok (Nat.le_of_ble_eq_true rfl)) hl.1 (v) hv hg (Nat.le_of_ble_eq_true rfl) dX0_wasSo_23 ?_
        refine kb_ge_n (tgt := 90) (a := k_) (b := (y 7 v).toNatClampNeg) S rfl hn7 (by omega) (by omega) dX0_wasSo_26 (by decide) (fun c_26 => ?_) (fun c_26 => ?_)
        · exact absurd c_26 (by omega)
        · skip
          refine lv_aload_n hx hb dX0_wasSo_29 rfl (lv_at hl 1 rfl) ?_
          refine lv_iload hx hb dX0_wasSo_30 (lv_at hl 4 rfl) ?_
          refine cc_number S hK hP (hQ.keep hS) (rm_ok (Nat.le_of_ble_eq_true rfl)) hl.1 (k_) (v) hv hg (by omega) rfl (Nat.le_of_ble_eq_true rfl) dX0_wasSo_32 ?_
          refine lv_iconst (v := (-1)) hx hb dX0_wasSo_35 (by decide) ?_
          refine lv_icmp_eq (tgt := 74) hx hb dX0_wasSo_36 (by decide) (fun c_36 => ?_) (fun c_36 => ?_)
          · skip
            refine lv_iconst (v := 1) hx hb dX0_wasSo_74 (by decide) ?_
            refine lv_goto (tgt := 79) hx hb dX0_wasSo_75 (by decide) ?_
            refine lv_istore_n (lv' := [(3, .int (1)), (0, .ref (t.2.1 0)), (1, .ref a), (2, .int (k)), (4, .int ((nI k_)))]) hx hb dX0_wasSo_79 rfl hl (by decide) rfl (fun ls hl => ?_)
            refine lv_aload_n hx hb dX0_wasSo_80 rfl (lv_at hl 1 rfl) ?_
            refine cc_passes_2 S hK hP hS (rm_ok (Nat.le_of_ble_eq_true rfl)) hl.1 ((b + k_)) hV1 (by omega) (Nat.le_of_ble_eq_true rfl) dX0_wasSo_81 (fun H locs hP hS => ?_)
            refine lv_iinc (v := (nI (k_ + 1))) (lv' := [(4, .int ((nI (k_ + 1)))), (3, .int (1)), (0, .ref (t.2.1 0)), (1, .ref a), (2, .int (k))]) hx hb dX0_wasSo_84 hl (k := 4) rfl (nn_1 rfl) (by decide) rfl (fun ls hl => ?_)
            refine lv_goto (tgt := 16) hx hb dX0_wasSo_87 (by decide) ?_
            exact ih_16 ((k_ + 1)) true _ _ _ ls (by omega) (by have h := he; rw [c_17, p_tf, if_pos (show y 8 (40 * v + k_) = -1 ∨ y 8 (40 * v + k_) = r1 3 from Or.inl c_36)] at h; exact h) (pV_day (b := b + k_) hV1 (by omega)) hP hS (lv_sub hl [2, 3, 4, 1, 0] rfl)
          · skip
            refine lv_aload_n hx hb dX0_wasSo_39 rfl (lv_at hl 1 rfl) ?_
            refine lv_iload hx hb dX0_wasSo_40 (lv_at hl 4 rfl) ?_
            refine cc_number S hK hP (hQ.keep hS) (rm_ok (Nat.le_of_ble_eq_true rfl)) hl.1 (k_) (v) hv hg (by omega) rfl (Nat.le_of_ble_eq_true rfl) dX0_wasSo_42 ?_
            refine lv_iload_n hx hb dX0_wasSo_45 rfl (lv_at hl 2 rfl) ?_
            refine lv_iconst (v := (-1)) hx hb dX0_wasSo_46 (by decide) ?_
            refine lv_icmp_ne (tgt := 60) hx hb dX0_wasSo_47 (by decide) (fun c_47 => ?_) (fun c_47 => ?_)
            · exact absurd hk c_47
            · skip
              refine lv_aload_n hx hb dX0_wasSo_50 rfl (lv_at hl 0 rfl) ?_
              refine cg_d S hK hP dX0_wasSo_51 ?_
              refine cd_claps S hK hP dX0_wasSo_54 ?_
              refine lv_goto (tgt := 71) hx hb dX0_wasSo_57 (by decide) ?_
              refine lv_icmp_ne (tgt := 78) hx hb dX0_wasSo_71 (by decide) (fun c_71 => ?_) (fun c_71 => ?_)
              · skip
                refine lv_iconst (v := 0) hx hb dX0_wasSo_78 (by decide) ?_
                refine lv_istore_n (lv' := [(3, .int (0)), (0, .ref (t.2.1 0)), (1, .ref a), (2, .int (k)), (4, .int ((nI k_)))]) hx hb dX0_wasSo_79 rfl hl (by decide) rfl (fun ls hl => ?_)
                refine lv_aload_n hx hb dX0_wasSo_80 rfl (lv_at hl 1 rfl) ?_
                refine cc_passes_2 S hK hP hS (rm_ok (Nat.le_of_ble_eq_true rfl)) hl.1 ((b + k_)) hV1 (by omega) (Nat.le_of_ble_eq_true rfl) dX0_wasSo_81 (fun H locs hP hS => ?_)
                refine lv_iinc (v := (nI (k_ + 1))) (lv' := [(4, .int ((nI (k_ + 1)))), (3, .int (0)), (0, .ref (t.2.1 0)), (1, .ref a), (2, .int (k))]) hx hb dX0_wasSo_84 hl (k := 4) rfl (nn_1 rfl) (by decide) rfl (fun ls hl => ?_)
                refine lv_goto (tgt := 16) hx hb dX0_wasSo_87 (by decide) ?_
                exact ih_16 ((k_ + 1)) false _ _ _ ls (by omega) (by have h := he; rw [c_17, p_tf, if_neg (fun z => z.elim c_36 c_71)] at h; exact h) (pV_day (b := b + k_) hV1 (by omega)) hP hS (lv_sub hl [2, 3, 4, 1, 0] rfl)
              · skip
                refine lv_iconst (v := 1) hx hb dX0_wasSo_74 (by decide) ?_
                refine lv_goto (tgt := 79) hx hb dX0_wasSo_75 (by decide) ?_
                refine lv_istore_n (lv' := [(3, .int (1)), (0, .ref (t.2.1 0)), (1, .ref a), (2, .int (k)), (4, .int ((nI k_)))]) hx hb dX0_wasSo_79 rfl hl (by decide) rfl (fun ls hl => ?_)
                refine lv_aload_n hx hb dX0_wasSo_80 rfl (lv_at hl 1 rfl) ?_
                refine cc_passes_2 S hK hP hS (rm_ok (Nat.le_of_ble_eq_true rfl)) hl.1 ((b + k_)) hV1 (by omega) (Nat.le_of_ble_eq_true rfl) dX0_wasSo_81 (fun H locs hP hS => ?_)
                refine lv_iinc (v := (nI (k_ + 1))) (lv' := [(4, .int ((nI (k_ + 1)))), (3, .int (1)), (0, .ref (t.2.1 0)), (1, .ref a), (2, .int (k))]) hx hb dX0_wasSo_84 hl (k := 4) rfl (nn_1 rfl) (by decide) rfl (fun ls hl => ?_)
                refine lv_goto (tgt := 16) hx hb dX0_wasSo_87 (by decide) ?_
                exact ih_16 ((k_ + 1)) true _ _ _ ls (by omega) (by have h := he; rw [c_17, p_tf, if_pos (show y 8 (40 * v + k_) = -1 ∨ y 8 (40 * v + k_) = r1 3 from Or.inr c_71)] at h; exact h) (pV_day (b := b + k_) hV1 (by omega)) hP hS (lv_sub hl [2, 3, 4, 1, 0] rfl)
  exact lp_16 ((y 7 v).toNatClampNeg) 0 true _ _ _ ls (by omega) (rfl) (hV) hP hS (lv_sub hl [2, 3, 4, 1, 0] rfl)
section CC
variable {p : Program} {l : Launch} {e : Env} {R : Room} {s : State} {m : MethodId} {args : Array Value} {below : List Frame} {meth : Method} {c : Code} {H H0 : Heap} {locs : List Loc} {cells slots : Nat} {Q : State → Prop}
variable {cc : ByteArray} {pc nL : Nat} {ls : Array Slot} {rest : List Value} {t : CT} {r : Rw} {x : Nat → Rw}
theorem cc_wasSoC {y : Nat → Rw} (S : CallFix p m c cc nL s args lw_all RX0) (hK : cK t s) (hP : cX t r x H) (hQ : cSh t y H) (hS : va_S (cA t) H0 H locs) (hR : kRm R 9 cells slots) (hsz : ls.size = nL) {a : Nat} {k : Int32} (v : Nat) (b : Nat) (hv : v < 4) (hg : cG t v = some a) (hV : pV b r) (hb : b < 2 ^ 29) (hk : k = -1) (hrest : (rest.map fun v => v.category).sum ≤ 8) (hdg : decode cc pc = .ok (.invokevirtual 306, 3)) (kk : ∀ (H1 : Heap) (locs1 : List Loc), cX t (r) (va_up x 3 r) H1 → va_S (cA t) H0 H1 locs1 → W p l e R s m args below meth c H1 locs1 cells slots Q (F0 m (pc + 3) ls (.int (b2i (p_ist (fun u => y 8 (40 * v + u)) (y 7 v).toNatClampNeg 3 r = true)) :: rest))) : W p l e R s m args below meth c H locs cells slots Q (F0 m pc ls (.int k :: .ref a :: .ref (t.2.1 0) :: rest)) := by
  exact kk_Wi (CallRunX.run (W.runX (As := [.ref a, .int k]) (rest := rest) (maxL := 6) S (k0_wasSoC l t r x y a k v b hv hg hV hb hk).x rfl rfl hR.1 (by have := hR.2.1; show 8 + (6 + 11) + 38 * 8 ≤ R.locals; omega) (pay_in S.2.2.2.2 (lw_methW q963)) (fun U hW => LocX.codeW (pay_in S.2.2.2.2 (lw_methW q963) _ List.mem_cons_self #[] U hW)) (S.2.2.2.2 _ q101) ⟨by decide, by decide⟩ (show (parseMethodDescriptor yX0_wasSo.desc).map (fun d => d.parameters.length) = some 2 from by decide +kernel) (S.2.2.2.2 _ q960) (S.2.2.2.2 _ q962) (S.2.2.2.2 _ qs35) ⟨cS_blind, c_recv hK hP, cS_pre hK hP hQ⟩ rfl hsz rfl (lv_room hrest) hdg ⟨hR.2.2.1, hR.2.2.2⟩) (fun _ _ _ h => ⟨_, h.1⟩)) hS (fun _ h => h) (fun _ h => h) (fun H1 locs1 hB _ _ hS => kk H1 locs1 hB hS)
end CC
set_option maxHeartbeats 4000000 in
set_option maxRecDepth 100000 in
theorem k0_manyFits (l : Launch) (t : CT) (r : Rw) (x : Nat → Rw) (y : Nat → Rw) (a : Nat) (k : Nat) (v : Nat) (b : Nat) (hv : v < 4) (hg : cG t v = some a) (hk : k < 8) (hV : pV b r) (hb : b ≤ 99999) : Met l yX0_manyFits (ws_ yX0_manyFits cX0_manyFits 7 (some .int)) (rmF 9) (va_Pc [.ref (t.2.1 0), .ref a, .int (nI k)] (fun U => cK t U ∧ cX t r x U.heap ∧ cSh t y U.heap)) (kW (some (.int ((p_fit (p_fitP (fun u => y 8 (40 * v + u)) (y 7 v).toNatClampNeg r k) 101 (0, x 9 2)).1))) (fun H => ∃ f1, cX t (r) (va_up (va_up x 9 (upd (x 9) 2 (p_fit (p_fitP (fun u => y 8 (40 * v + u)) (y 7 v).toNatClampNeg r k) 101 (0, x 9 2)).2)) 3 f1) H) (cA t)) 0 0 (cA t) := by
  refine kk_start (by decide) (Nat.le_of_ble_eq_true rfl) ?_
  intro p e s m below meth c S hr hlk hin hB ls hl
  obtain ⟨hK, hP⟩ := hB
  have hx := S.1
  have hb := S.2.1
  have hown : s.vm.findClass RX0 = some m.cls := S.2.2.2.1
  have hts := S.2.2.2.2
  have hS : va_S (cA t) s.heap s.heap [] := va_S.rf
  have hl : lv_has ls 7 [(0, .ref (t.2.1 0)), (1, .ref a), (2, .int ((nI k)))] := hl
  obtain ⟨hP, hQ⟩ := hP
  refine lv_aload_n hx hb dX0_manyFits_0 rfl (lv_at hl 0 rfl) ?_
  refine cg_d S hK hP dX0_manyFits_1 ?_
  refine cd_cask S hK hP dX0_manyFits_4 ?_
  refine lv_iconst (v := 2) hx hb dX0_manyFits_7 (by decide) ?_
  refine ck_aald S hK hP (2) (by omega) rfl dX0_manyFits_8 ?_
  refine lv_iload_n hx hb dX0_manyFits_9 rfl (lv_at hl 2 rfl) ?_
  refine ck_ldc S hK hP (2) (by omega) (k) (by omega) rfl dX0_manyFits_10 ?_
  refine lv_istore_n (lv' := [(3, .int (r (16 + 7 * k + 2))), (0, .ref (t.2.1 0)), (1, .ref a), (2, .int ((nI k)))]) hx hb dX0_manyFits_11 rfl hl (by decide) rfl (fun ls hl => ?_)
  refine lv_iconst (v := 0) hx hb dX0_manyFits_12 (by decide) ?_
  refine lv_istore (lv' := [(4, .int (0)), (3, .int (r (16 + 7 * k + 2))), (0, .ref (t.2.1 0)), (1, .ref a), (2, .int ((nI k)))]) hx hb dX0_manyFits_13 hl (by decide) rfl (fun ls hl => ?_)
  refine lv_bipush (v := 100) hx hb dX0_manyFits_15 (by decide) ?_
  refine lv_istore (lv' := [(5, .int (100)), (4, .int (0)), (3, .int (r (16 + 7 * k + 2))), (0, .ref (t.2.1 0)), (1, .ref a), (2, .int ((nI k)))]) hx hb dX0_manyFits_17 hl (by decide) rfl (fun ls hl => ?_)
  have lp_19 : ∀ (j : Nat) (cn : Int32) (le : Int32) (r1 : Rw) (x1 : Nat → Rw) (H : Heap) (locs : List Loc) (ls : Array Slot), (j ≤ 101) → (p_fit (p_fitP (fun u => y 8 (40 * v + u)) (y 7 v).toNatClampNeg r k) j (cn, le) = (p_fit (p_fitP (fun u => y 8 (40 * v + u)) (y 7 v).toNatClampNeg r k) 101 (0, x 9 2))) → (∃ u, r1 = upd r (16 + 7 * k + 2) u) → (∃ f, x1 = va_up (va_up x 9 (upd (x 9) 2 le)) 3 f) → cX t (r1) (x1) H → va_S (cA t) s.heap H locs → lv_has ls 7 [(0, .ref (t.2.1 0)), (1, .ref a), (2, .int ((nI k))), (3, .int (r (16 + 7 * k + 2))), (4, .int (cn)), (5, .int ((dj j)))] → W p l e (rmF 9) s m ([.ref (t.2.1 0), .ref a, .int (nI k)] : List Value).toArray below meth c H locs 0 0 (MQ below (kW (some (.int ((p_fit (p_fitP (fun u => y 8 (40 * v + u)) (y 7 v).toNatClampNeg r k) 101 (0, x 9 2)).1))) (fun H => ∃ f1, cX t (r) (va_up (va_up x 9 (upd (x 9) 2 (p_fit (p_fitP (fun u => y 8 (40 * v + u)) (y 7 v).toNatClampNeg r k) 101 (0, x 9 2)).2)) 3 f1) H) (cA t)) ([.ref (t.2.1 0), .ref a, .int (nI k)] : List Value).toArray s 0 0 (cA t)) (F0 m 19 ls []) := by
    intro j
    induction j with
    | zero =>
      intro cn le r1 x1 H locs ls hkj he hr1 hx1 hP hS hl
      obtain ⟨u1, rfl⟩ := hr1
      obtain ⟨f1, rfl⟩ := hx1
      refine lv_iload hx hb dX0_manyFits_19 (lv_at hl 5 rfl) ?_
      refine lv_if_lt (tgt := 84) hx hb dX0_manyFits_21 (by decide) (fun c_21 => ?_) (fun c_21 => ?_)
      · skip
        refine lv_aload_n hx hb dX0_manyFits_84 rfl (lv_at hl 0 rfl) ?_
        refine cg_d S hK hP dX0_manyFits_85 ?_
        refine cd_cask S hK hP dX0_manyFits_88 ?_
        refine lv_iconst (v := 2) hx hb dX0_manyFits_91 (by decide) ?_
        refine ck_aald S hK hP (2) (by omega) rfl dX0_manyFits_92 ?_
        refine lv_iload_n hx hb dX0_manyFits_93 rfl (lv_at hl 2 rfl) ?_
        refine lv_iload_n hx hb dX0_manyFits_94 rfl (lv_at hl 3 rfl) ?_
        refine ck_stc S hK hP hS (fun _ h => h) (2) (by omega) (k) (by omega) rfl dX0_manyFits_95 (fun H locs hP hS => ?_)
        rw [up_up, up_eta] at hP
        refine lv_iload hx hb dX0_manyFits_96 (lv_at hl 4 rfl) ?_
        exact kk_iretW S hr hlk hS (by have h : (cn, le) = _ := he; rw [← h]; exact ⟨_, hP⟩) (by have h : (cn, le) = _ := he; rw [← h]) dX0_manyFits_98
      · exact absurd (show dj 0 < 0 by decide) c_21
    | succ j ih =>
      intro cn le r1 x1 H locs ls hkj he hr1 hx1 hP hS hl
      have ih_19 := ih
      obtain ⟨u1, rfl⟩ := hr1
      obtain ⟨f1, rfl⟩ := hx1
      refine lv_iload hx hb dX0_manyFits_19 (lv_at hl 5 rfl) ?_
      refine kb_lt0_n (tgt := 84) (a := j) S rfl (by omega) dX0_manyFits_21 (by decide) (fun c_21 => ?_) (fun c_21 => ?_)
      · exact c_21.elim
      · skip
        refine lv_aload_n hx hb dX0_manyFits_24 rfl (lv_at hl 0 rfl) ?_
        refine cg_d S hK hP dX0_manyFits_25 ?_
        refine cd_cask S hK hP dX0_manyFits_28 ?_
        refine lv_iconst (v := 2) hx hb dX0_manyFits_31 (by decide) ?_
        refine ck_aald S hK hP (2) (by omega) rfl dX0_manyFits_32 ?_
        refine lv_iload_n hx hb dX0_manyFits_33 rfl (lv_at hl 2 rfl) ?_
        refine lv_iload hx hb dX0_manyFits_34 (lv_at hl 5 rfl) ?_
        refine ck_stc S hK hP hS (fun _ h => h) (2) (by omega) (k) (by omega) rfl dX0_manyFits_36 (fun H locs hP hS => ?_)
        rw [up_up] at hP
        refine lv_aload_n hx hb dX0_manyFits_37 rfl (lv_at hl 0 rfl) ?_
        refine lv_aload_n hx hb dX0_manyFits_38 rfl (lv_at hl 1 rfl) ?_
        refine lv_iconst (v := (-1)) hx hb dX0_manyFits_39 (by decide) ?_
        refine cc_wasSoC S hK hP (hQ.keep hS) hS (rm_ok (Nat.le_of_ble_eq_true rfl)) hl.1 (v) (b) hv hg (pV_free hV (by omega)) (by omega) rfl (Nat.le_of_ble_eq_true rfl) dX0_manyFits_40 (fun H locs hP hS => ?_)
        refine lv_istore (lv' := [(6, .int _), (0, .ref (t.2.1 0)), (1, .ref a), (2, .int ((nI k))), (3, .int (r (16 + 7 * k + 2))), (4, .int (cn)), (5, .int ((dj (j + 1))))]) hx hb dX0_manyFits_43 hl (by decide) rfl (fun ls hl => ?_)
        refine lv_aload_n hx hb dX0_manyFits_45 rfl (lv_at hl 1 rfl) ?_
        refine lv_iload hx hb dX0_manyFits_46 (lv_at hl 0 rfl) ?_
        refine kb_ifeq (tgt := 56) S dX0_manyFits_48 (by decide) (fun c_48 => ?_) (fun c_48 => ?_)
        · skip
          refine lv_aload_n hx hb dX0_manyFits_56 rfl (lv_at hl 1 rfl) ?_
          refine cg_firstFit S hK hP dX0_manyFits_57 ?_
          refine cp_firstFit S hK hP hS (fun _ h => h) dX0_manyFits_60 (fun H locs hP hS => ?_)
          refine lv_iload hx hb dX0_manyFits_63 (lv_at hl 5 rfl) ?_
          refine lv_iload hx hb dX0_manyFits_65 (lv_at hl 0 rfl) ?_
          refine kb_ifeq (tgt := 74) S dX0_manyFits_67 (by decide) (fun c_67 => ?_) (fun c_67 => ?_)
          · skip
            refine lv_iconst (v := 0) hx hb dX0_manyFits_74 (by decide) ?_
            refine lv_iadd hx hb dX0_manyFits_75 ?_
            refine lv_istore (lv' := [(4, .int ((cn + 0))), (6, .int _), (0, .ref (t.2.1 0)), (1, .ref a), (2, .int ((nI k))), (3, .int (r (16 + 7 * k + 2))), (5, .int ((dj (j + 1))))]) hx hb dX0_manyFits_76 hl (by decide) rfl (fun ls hl => ?_)
            refine lv_iinc (v := (dj j)) (lv' := [(5, .int ((dj j))), (4, .int ((cn + 0))), (6, .int _), (0, .ref (t.2.1 0)), (1, .ref a), (2, .int ((nI k))), (3, .int (r (16 + 7 * k + 2)))]) hx hb dX0_manyFits_78 hl (k := 6) rfl (dj_dec j) (by decide) rfl (fun ls hl => ?_)
            refine lv_goto (tgt := 19) hx hb dX0_manyFits_81 (by decide) ?_
            exact ih_19  (cn + 0) le _ _ _ _ ls (by omega) (by have h := he; rw [p_fit, if_neg (show ¬ (p_fitP (fun u => y 8 (40 * v + u)) (y 7 v).toNatClampNeg r k) j = true from c_48)] at h; rw [Int32.add_zero]; exact h) (⟨_, rfl⟩) (fit_c x) hP hS (lv_sub hl [3, 4, 5, 6, 1, 0] rfl)
          · exact absurd c_67 c_48
        · skip
          refine lv_iload hx hb dX0_manyFits_51 (lv_at hl 6 rfl) ?_
          refine lv_goto (tgt := 60) hx hb dX0_manyFits_53 (by decide) ?_
          refine cp_firstFit S hK hP hS (fun _ h => h) dX0_manyFits_60 (fun H locs hP hS => ?_)
          refine lv_iload hx hb dX0_manyFits_63 (lv_at hl 5 rfl) ?_
          refine lv_iload hx hb dX0_manyFits_65 (lv_at hl 0 rfl) ?_
          refine kb_ifeq (tgt := 74) S dX0_manyFits_67 (by decide) (fun c_67 => ?_) (fun c_67 => ?_)
          · exact absurd c_48 c_67
          · skip
            refine lv_iconst (v := 1) hx hb dX0_manyFits_70 (by decide) ?_
            refine lv_goto (tgt := 75) hx hb dX0_manyFits_71 (by decide) ?_
            refine lv_iadd hx hb dX0_manyFits_75 ?_
            refine lv_istore (lv' := [(4, .int ((cn + 1))), (6, .int _), (0, .ref (t.2.1 0)), (1, .ref a), (2, .int ((nI k))), (3, .int (r (16 + 7 * k + 2))), (5, .int ((dj (j + 1))))]) hx hb dX0_manyFits_76 hl (by decide) rfl (fun ls hl => ?_)
            refine lv_iinc (v := (dj j)) (lv' := [(5, .int ((dj j))), (4, .int ((cn + 1))), (6, .int _), (0, .ref (t.2.1 0)), (1, .ref a), (2, .int ((nI k))), (3, .int (r (16 + 7 * k + 2)))]) hx hb dX0_manyFits_78 hl (k := 6) rfl (dj_dec j) (by decide) rfl (fun ls hl => ?_)
            refine lv_goto (tgt := 19) hx hb dX0_manyFits_81 (by decide) ?_
            exact ih_19  (cn + 1) (nI j) _ _ _ _ ls (by omega) (by have h := he; rw [p_fit, if_pos (show (p_fitP (fun u => y 8 (40 * v + u)) (y 7 v).toNatClampNeg r k) j = true from c_48)] at h; exact h) (⟨_, rfl⟩) (fit_c x) hP hS (lv_sub hl [3, 4, 5, 6, 1, 0] rfl)
  exact lp_19 101 0 (x 9 2) _ _ _ _ ls (by decide) (rfl) (⟨_, (up_eta r _).symm⟩) (fit_c0 x) hP hS (lv_sub hl [3, 4, 5, 2, 1, 0] rfl)
section CC
variable {p : Program} {l : Launch} {e : Env} {R : Room} {s : State} {m : MethodId} {args : Array Value} {below : List Frame} {meth : Method} {c : Code} {H H0 : Heap} {locs : List Loc} {cells slots : Nat} {Q : State → Prop}
variable {cc : ByteArray} {pc nL : Nat} {ls : Array Slot} {rest : List Value} {t : CT} {r : Rw} {x : Nat → Rw}
theorem cc_manyFits {y : Nat → Rw} (S : CallFix p m c cc nL s args lw_all RX0) (hK : cK t s) (hP : cX t r x H) (hQ : cSh t y H) (hS : va_S (cA t) H0 H locs) (hR : kRm R 10 cells slots) (hsz : ls.size = nL) {a : Nat} (k : Nat) (v : Nat) (b : Nat) (hv : v < 4) (hg : cG t v = some a) (hk : k < 8) (hV : pV b r) (hb : b ≤ 99999) {i1 : Int32} (e1 : i1 = nI k) (hrest : (rest.map fun v => v.category).sum ≤ 8) (hdg : decode cc pc = .ok (.invokevirtual 317, 3)) (kk : ∀ (f1 : Rw) (H1 : Heap) (locs1 : List Loc), cX t (r) (va_up (va_up x 9 (upd (x 9) 2 (p_fit (p_fitP (fun u => y 8 (40 * v + u)) (y 7 v).toNatClampNeg r k) 101 (0, x 9 2)).2)) 3 f1) H1 → va_S (cA t) H0 H1 locs1 → W p l e R s m args below meth c H1 locs1 cells slots Q (F0 m (pc + 3) ls (.int ((p_fit (p_fitP (fun u => y 8 (40 * v + u)) (y 7 v).toNatClampNeg r k) 101 (0, x 9 2)).1) :: rest))) : W p l e R s m args below meth c H locs cells slots Q (F0 m pc ls (.int i1 :: .ref a :: .ref (t.2.1 0) :: rest)) := by
  subst e1
  exact kk_Wi (W.runV (As := [.ref a, .int (nI k)]) (rest := rest) S (k0_manyFits l t r x y a k v b hv hg hk hV hb) (cwV 2 S.2.2.2.2 (lw_V q956 q958 qs34 q101 q959) rfl rfl rfl (by decide +kernel) ⟨hR.1, by have := hR.2.1; show 8 + (7 + 11) + 38 * 9 ≤ R.locals; omega⟩) ⟨cS_blind, c_recv hK hP, cS_pre hK hP hQ⟩ rfl rfl hsz rfl (lv_room hrest) hdg ⟨hR.2.2.1, hR.2.2.2⟩) hS (fun _ h => h) (fun _ h => h) (fun H1 locs1 hB _ _ hS => by obtain ⟨f1, hB⟩ := hB; exact kk f1 H1 locs1 hB hS)
end CC

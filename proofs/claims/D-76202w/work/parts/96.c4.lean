/-! COMPONENT: where, as what; blends -/
set_option maxHeartbeats 4000000 in
set_option maxRecDepth 100000 in
theorem k0_areOne (l : Launch) (t : CT) (r : Rw) (x : Nat → Rw) (v : Int32) (n : Int32) (b : Nat) (hV : pV b r) : Met l yX0_areOne (ws_ yX0_areOne cX0_areOne 3 (some .boolean)) (rmF 2) (va_Pc [.ref (t.2.1 0), .int v, .int n] (fun U => cK t U ∧ cX t r x U.heap)) (kR (some (.int (b2i ((0 ≤ v ∧ v < r 0) ∧ 0 ≤ n ∧ n ≤ 40))))) 0 0 (fun _ => False) := by
  refine kk_start (by decide) (Nat.le_of_ble_eq_true rfl) ?_
  intro p e s m below meth c S hr hlk hin hB ls hl
  obtain ⟨hK, hP⟩ := hB
  have hx := S.1
  have hb := S.2.1
  have hown : s.vm.findClass RX0 = some m.cls := S.2.2.2.1
  have hts := S.2.2.2.2
  have hl : lv_has ls 3 [(0, .ref (t.2.1 0)), (1, .int (v)), (2, .int (n))] := hl
  refine lv_aload_n hx hb dX0_areOne_0 rfl (lv_at hl 0 rfl) ?_
  refine lv_iload_n hx hb dX0_areOne_1 rfl (lv_at hl 1 rfl) ?_
  refine cc_isCask S hK hP (rm_ok (Nat.le_of_ble_eq_true rfl)) hl.1 (b) hV (Nat.le_of_ble_eq_true rfl) dX0_areOne_2 ?_
  refine kb_ifeq (tgt := 22) S dX0_areOne_5 (by decide) (fun c_5 => ?_) (fun c_5 => ?_)
  · skip
    refine lv_iconst (v := 0) hx hb dX0_areOne_22 (by decide) ?_
    exact kk_zfR S hr hlk rfl rfl (fun z => c_5 z.1) dX0_areOne_23
  · skip
    refine lv_iload_n hx hb dX0_areOne_8 rfl (lv_at hl 2 rfl) ?_
    refine lv_iconst (v := 0) hx hb dX0_areOne_9 (by decide) ?_
    refine lv_bipush (v := 40) hx hb dX0_areOne_10 (by decide) ?_
    refine cc_in S (rm_ok (Nat.le_of_ble_eq_true rfl)) hl.1 (Nat.le_of_ble_eq_true rfl) dX0_areOne_12 ?_
    refine kb_ifeq (tgt := 22) S dX0_areOne_15 (by decide) (fun c_15 => ?_) (fun c_15 => ?_)
    · skip
      refine lv_iconst (v := 0) hx hb dX0_areOne_22 (by decide) ?_
      exact kk_zfR S hr hlk rfl rfl (fun z => c_15 z.2) dX0_areOne_23
    · skip
      refine lv_iconst (v := 1) hx hb dX0_areOne_18 (by decide) ?_
      refine lv_goto (tgt := 23) hx hb dX0_areOne_19 (by decide) ?_
      exact kk_ztR S hr hlk rfl rfl (⟨c_5, c_15⟩) dX0_areOne_23
set_option maxHeartbeats 4000000 in
set_option maxRecDepth 100000 in
theorem k0_mostBy (l : Launch) (t : CT) (r : Rw) (x : Nat → Rw) (k : Nat) (w : Nat) (y : Nat) (n : Nat) (b : Nat) (hk : k < 8) (hw : w = 0 ∨ w = 1 ∨ w = 3) (hy : y = gN w + 1) (hV : pV b r) (hbn : b + n < 2 ^ 30) : Met l yX0_mostBy (ws_ yX0_mostBy cX0_mostBy 10 (some .int)) (rmF 10) (va_Pc [.ref (t.2.1 0), .int (nI k), .int (nI w), .int (nI y), .int (nI n)] (fun U => cK t U ∧ cX t r x U.heap)) (kW (some (.int ((p_by r k w n).1))) (fun H => ∃ x1, cJ (x) x1 ∧ cX t (r) x1 H) (cA t)) 0 0 (cA t) := by
  refine kk_start (by decide) (Nat.le_of_ble_eq_true rfl) ?_
  intro p e s m below meth c S hr hlk hin hB ls hl
  obtain ⟨hK, hP⟩ := hB
  have hx := S.1
  have hb := S.2.1
  have hown : s.vm.findClass RX0 = some m.cls := S.2.2.2.1
  have hts := S.2.2.2.2
  have hS : va_S (cA t) s.heap s.heap [] := va_S.rf
  have hl : lv_has ls 10 [(0, .ref (t.2.1 0)), (1, .int ((nI k))), (2, .int ((nI w))), (3, .int ((nI y))), (4, .int ((nI n)))] := hl
  have hgw : gN w < 20 := by rcases hw with rfl | rfl | rfl <;> decide
  refine lv_aload_n hx hb dX0_mostBy_0 rfl (lv_at hl 0 rfl) ?_
  refine cg_d S hK hP dX0_mostBy_1 ?_
  refine cd_cask S hK hP dX0_mostBy_4 ?_
  refine lv_iload_n hx hb dX0_mostBy_7 rfl (lv_at hl 2 rfl) ?_
  refine ck_aald S hK hP (w) (by omega) rfl dX0_mostBy_8 ?_
  refine lv_iload_n hx hb dX0_mostBy_9 rfl (lv_at hl 1 rfl) ?_
  refine ck_ldc S hK hP (w) (by omega) (k) (by omega) rfl dX0_mostBy_10 ?_
  refine lv_istore (lv' := [(5, .int (r (16 + 7 * k + w))), (0, .ref (t.2.1 0)), (1, .int ((nI k))), (2, .int ((nI w))), (3, .int ((nI y))), (4, .int ((nI n)))]) hx hb dX0_mostBy_11 hl (by decide) rfl (fun ls hl => ?_)
  refine lv_iconst (v := 0) hx hb dX0_mostBy_13 (by decide) ?_
  refine lv_istore (lv' := [(6, .int (0)), (5, .int (r (16 + 7 * k + w))), (0, .ref (t.2.1 0)), (1, .int ((nI k))), (2, .int ((nI w))), (3, .int ((nI y))), (4, .int ((nI n)))]) hx hb dX0_mostBy_14 hl (by decide) rfl (fun ls hl => ?_)
  refine lv_iconst (v := (-1)) hx hb dX0_mostBy_16 (by decide) ?_
  refine lv_istore (lv' := [(7, .int ((-1))), (6, .int (0)), (5, .int (r (16 + 7 * k + w))), (0, .ref (t.2.1 0)), (1, .int ((nI k))), (2, .int ((nI w))), (3, .int ((nI y))), (4, .int ((nI n)))]) hx hb dX0_mostBy_17 hl (by decide) rfl (fun ls hl => ?_)
  refine lv_iconst (v := 0) hx hb dX0_mostBy_19 (by decide) ?_
  refine lv_istore (lv' := [(8, .int (0)), (7, .int ((-1))), (6, .int (0)), (5, .int (r (16 + 7 * k + w))), (0, .ref (t.2.1 0)), (1, .int ((nI k))), (2, .int ((nI w))), (3, .int ((nI y))), (4, .int ((nI n)))]) hx hb dX0_mostBy_20 hl (by decide) rfl (fun ls hl => ?_)
  have lp_22 : ∀ (j v : Nat) (bs : Int32) (ms : Int32) (r1 : Rw) (x1 : Nat → Rw) (H : Heap) (locs : List Loc) (ls : Array Slot), v + j = y → (lp (p_byf r k w n) j v (bs, ms) = p_by r k w n) → (∃ u, r1 = upd r (16 + 7 * k + w) u) → (cJ x x1) → cX t (r1) (x1) H → va_S (cA t) s.heap H locs → lv_has ls 10 [(0, .ref (t.2.1 0)), (1, .int ((nI k))), (2, .int ((nI w))), (3, .int ((nI y))), (4, .int ((nI n))), (5, .int (r (16 + 7 * k + w))), (6, .int (bs)), (7, .int (ms)), (8, .int ((nI v)))] → W p l e (rmF 10) s m ([.ref (t.2.1 0), .int (nI k), .int (nI w), .int (nI y), .int (nI n)] : List Value).toArray below meth c H locs 0 0 (MQ below (kW (some (.int ((p_by r k w n).1))) (fun H => ∃ x1, cJ (x) x1 ∧ cX t (r) x1 H) (cA t)) ([.ref (t.2.1 0), .int (nI k), .int (nI w), .int (nI y), .int (nI n)] : List Value).toArray s 0 0 (cA t)) (F0 m 22 ls []) := by
    intro j
    induction j with
    | zero =>
      intro v bs ms r1 x1 H locs ls hkj he hr1 hx1 hP hS hl
      obtain ⟨u1, rfl⟩ := hr1
      refine lv_iload hx hb dX0_mostBy_22 (lv_at hl 8 rfl) ?_
      refine lv_iload_n hx hb dX0_mostBy_24 rfl (lv_at hl 3 rfl) ?_
      refine kb_ge_n (tgt := 83) (a := v) (b := y) S rfl rfl (by omega) (by omega) dX0_mostBy_25 (by decide) (fun c_25 => ?_) (fun c_25 => ?_)
      · skip
        refine lv_aload_n hx hb dX0_mostBy_83 rfl (lv_at hl 0 rfl) ?_
        refine cg_d S hK hP dX0_mostBy_84 ?_
        refine cd_cask S hK hP dX0_mostBy_87 ?_
        refine lv_iload_n hx hb dX0_mostBy_90 rfl (lv_at hl 2 rfl) ?_
        refine ck_aald S hK hP (w) (by omega) rfl dX0_mostBy_91 ?_
        refine lv_iload_n hx hb dX0_mostBy_92 rfl (lv_at hl 1 rfl) ?_
        refine lv_iload hx hb dX0_mostBy_93 (lv_at hl 5 rfl) ?_
        refine ck_stc S hK hP hS (fun _ h => h) (w) (by omega) (k) (by omega) rfl dX0_mostBy_95 (fun H locs hP hS => ?_)
        rw [up_up, up_eta] at hP
        refine lv_iload hx hb dX0_mostBy_96 (lv_at hl 6 rfl) ?_
        exact kk_iretW S hr hlk hS (⟨_, hx1, hP⟩) (by rw [← he]; rfl) dX0_mostBy_98
      · exact absurd c_25 (by omega)
    | succ j ih =>
      intro v bs ms r1 x1 H locs ls hkj he hr1 hx1 hP hS hl
      have ih_22 := ih
      obtain ⟨u1, rfl⟩ := hr1
      refine lv_iload hx hb dX0_mostBy_22 (lv_at hl 8 rfl) ?_
      refine lv_iload_n hx hb dX0_mostBy_24 rfl (lv_at hl 3 rfl) ?_
      refine kb_ge_n (tgt := 83) (a := v) (b := y) S rfl rfl (by omega) (by omega) dX0_mostBy_25 (by decide) (fun c_25 => ?_) (fun c_25 => ?_)
      · exact absurd c_25 (by omega)
      · skip
        refine lv_aload_n hx hb dX0_mostBy_28 rfl (lv_at hl 0 rfl) ?_
        refine cg_d S hK hP dX0_mostBy_29 ?_
        refine cd_cask S hK hP dX0_mostBy_32 ?_
        refine lv_iload_n hx hb dX0_mostBy_35 rfl (lv_at hl 2 rfl) ?_
        refine ck_aald S hK hP (w) (by omega) rfl dX0_mostBy_36 ?_
        refine lv_iload_n hx hb dX0_mostBy_37 rfl (lv_at hl 1 rfl) ?_
        refine lv_iload hx hb dX0_mostBy_38 (lv_at hl 8 rfl) ?_
        refine ck_stc S hK hP hS (fun _ h => h) (w) (by omega) (k) (by omega) rfl dX0_mostBy_40 (fun H locs hP hS => ?_)
        rw [up_up] at hP
        refine lv_aload_n hx hb dX0_mostBy_41 rfl (lv_at hl 0 rfl) ?_
        refine lv_iload_n hx hb dX0_mostBy_42 rfl (lv_at hl 1 rfl) ?_
        refine lv_bipush (v := 7) hx hb dX0_mostBy_43 (by decide) ?_
        refine lv_iload hx hb dX0_mostBy_45 (lv_at hl 4 rfl) ?_
        refine cc_toldBehind S hK hP hS (rm_ok (Nat.le_of_ble_eq_true rfl)) hl.1 (k) (7) (n) (b) hk (by decide) (pV_set hV hk (by omega) (fun z => by subst z; have : gN 0 = 6 := rfl; omega) (fun z => by subst z; have : gN 1 = 5 := rfl; omega)) (by omega) rfl rfl rfl (Nat.le_of_ble_eq_true rfl) dX0_mostBy_47 (fun x_1 H locs hj_1 hP hS => ?_)
        refine lv_istore (lv' := [(9, .int (p_told (p_goes n (upd r (16 + 7 * k + w) (nI v))) k 7)), (0, .ref (t.2.1 0)), (1, .int ((nI k))), (2, .int ((nI w))), (3, .int ((nI y))), (4, .int ((nI n))), (5, .int (r (16 + 7 * k + w))), (6, .int (bs)), (7, .int (ms)), (8, .int ((nI v)))]) hx hb dX0_mostBy_50 hl (by decide) rfl (fun ls hl => ?_)
        refine lv_iload hx hb dX0_mostBy_52 (lv_at hl 0 rfl) ?_
        refine lv_iload hx hb dX0_mostBy_54 (lv_at hl 8 rfl) ?_
        refine lv_icmp_le (tgt := 64) hx hb dX0_mostBy_56 (by decide) (fun c_56 => ?_) (fun c_56 => ?_)
        · skip
          refine lv_iload hx hb dX0_mostBy_64 (lv_at hl 7 rfl) ?_
          refine lv_istore (lv' := [(6, .int (bs)), (9, .int (p_told (p_goes n (upd r (16 + 7 * k + w) (nI v))) k 7)), (0, .ref (t.2.1 0)), (1, .int ((nI k))), (2, .int ((nI w))), (3, .int ((nI y))), (4, .int ((nI n))), (5, .int (r (16 + 7 * k + w))), (7, .int (ms)), (8, .int ((nI v)))]) hx hb dX0_mostBy_66 hl (by decide) rfl (fun ls hl => ?_)
          refine lv_iload hx hb dX0_mostBy_68 (lv_at hl 8 rfl) ?_
          refine lv_iload hx hb dX0_mostBy_70 (lv_at hl 1 rfl) ?_
          refine c0_max S (rm_ok (Nat.le_of_ble_eq_true rfl)) hl.1 (Nat.le_of_ble_eq_true rfl) dX0_mostBy_72 ?_
          refine lv_istore (lv' := [(7, .int (imax ms (p_told (p_goes n (upd r (16 + 7 * k + w) (nI v))) k 7))), (6, .int (bs)), (9, .int (p_told (p_goes n (upd r (16 + 7 * k + w) (nI v))) k 7)), (0, .ref (t.2.1 0)), (1, .int ((nI k))), (2, .int ((nI w))), (3, .int ((nI y))), (4, .int ((nI n))), (5, .int (r (16 + 7 * k + w))), (8, .int ((nI v)))]) hx hb dX0_mostBy_75 hl (by decide) rfl (fun ls hl => ?_)
          refine lv_iinc (v := (nI (v + 1))) (lv' := [(8, .int ((nI (v + 1)))), (7, .int (imax ms (p_told (p_goes n (upd r (16 + 7 * k + w) (nI v))) k 7))), (6, .int (bs)), (9, .int (p_told (p_goes n (upd r (16 + 7 * k + w) (nI v))) k 7)), (0, .ref (t.2.1 0)), (1, .int ((nI k))), (2, .int ((nI w))), (3, .int ((nI y))), (4, .int ((nI n))), (5, .int (r (16 + 7 * k + w)))]) hx hb dX0_mostBy_77 hl (k := 9) rfl (nn_1 rfl) (by decide) rfl (fun ls hl => ?_)
          refine lv_goto (tgt := 22) hx hb dX0_mostBy_80 (by decide) ?_
          exact ih_22 ((v + 1)) _ _ _ _ _ _ ls (by omega) (by have h := he; simp only [lp, p_byf] at h; rw [if_neg (show ¬ ms < p_byT r k w n v from Int32.not_lt.mpr c_56)] at h; exact h) (⟨_, rfl⟩) ((hx1).tr hj_1) hP hS (lv_sub hl [4, 5, 6, 7, 8, 9, 2, 1, 0] rfl)
        · skip
          refine lv_iload hx hb dX0_mostBy_59 (lv_at hl 9 rfl) ?_
          refine lv_goto (tgt := 66) hx hb dX0_mostBy_61 (by decide) ?_
          refine lv_istore (lv' := [(6, .int ((nI v))), (9, .int (p_told (p_goes n (upd r (16 + 7 * k + w) (nI v))) k 7)), (0, .ref (t.2.1 0)), (1, .int ((nI k))), (2, .int ((nI w))), (3, .int ((nI y))), (4, .int ((nI n))), (5, .int (r (16 + 7 * k + w))), (7, .int (ms)), (8, .int ((nI v)))]) hx hb dX0_mostBy_66 hl (by decide) rfl (fun ls hl => ?_)
          refine lv_iload hx hb dX0_mostBy_68 (lv_at hl 8 rfl) ?_
          refine lv_iload hx hb dX0_mostBy_70 (lv_at hl 1 rfl) ?_
          refine c0_max S (rm_ok (Nat.le_of_ble_eq_true rfl)) hl.1 (Nat.le_of_ble_eq_true rfl) dX0_mostBy_72 ?_
          refine lv_istore (lv' := [(7, .int (imax ms (p_told (p_goes n (upd r (16 + 7 * k + w) (nI v))) k 7))), (6, .int ((nI v))), (9, .int (p_told (p_goes n (upd r (16 + 7 * k + w) (nI v))) k 7)), (0, .ref (t.2.1 0)), (1, .int ((nI k))), (2, .int ((nI w))), (3, .int ((nI y))), (4, .int ((nI n))), (5, .int (r (16 + 7 * k + w))), (8, .int ((nI v)))]) hx hb dX0_mostBy_75 hl (by decide) rfl (fun ls hl => ?_)
          refine lv_iinc (v := (nI (v + 1))) (lv' := [(8, .int ((nI (v + 1)))), (7, .int (imax ms (p_told (p_goes n (upd r (16 + 7 * k + w) (nI v))) k 7))), (6, .int ((nI v))), (9, .int (p_told (p_goes n (upd r (16 + 7 * k + w) (nI v))) k 7)), (0, .ref (t.2.1 0)), (1, .int ((nI k))), (2, .int ((nI w))), (3, .int ((nI y))), (4, .int ((nI n))), (5, .int (r (16 + 7 * k + w)))]) hx hb dX0_mostBy_77 hl (k := 9) rfl (nn_1 rfl) (by decide) rfl (fun ls hl => ?_)
          refine lv_goto (tgt := 22) hx hb dX0_mostBy_80 (by decide) ?_
          exact ih_22 ((v + 1)) _ _ _ _ _ _ ls (by omega) (by have h := he; simp only [lp, p_byf] at h; rw [if_pos (show ms < p_byT r k w n v from Int32.not_le.mp c_56)] at h; exact h) (⟨_, rfl⟩) ((hx1).tr hj_1) hP hS (lv_sub hl [4, 5, 6, 7, 8, 9, 2, 1, 0] rfl)
  exact lp_22 y 0 _ _ _ _ _ _ ls (by omega) (by subst hy; rfl) (⟨_, (up_eta r _).symm⟩) ((cJ.rf _)) hP hS (lv_sub hl [4, 5, 6, 7, 8, 3, 2, 1, 0] rfl)
section CC
variable {p : Program} {l : Launch} {e : Env} {R : Room} {s : State} {m : MethodId} {args : Array Value} {below : List Frame} {meth : Method} {c : Code} {H H0 : Heap} {locs : List Loc} {cells slots : Nat} {Q : State → Prop}
variable {cc : ByteArray} {pc nL : Nat} {ls : Array Slot} {rest : List Value} {t : CT} {r : Rw} {x : Nat → Rw}
theorem cc_areOne (S : CallFix p m c cc nL s args lw_all RX0) (hK : cK t s) (hP : cX t r x H) (hR : kRm R 3 cells slots) (hsz : ls.size = nL) {v : Int32} {n : Int32} (b : Nat) (hV : pV b r) (hrest : (rest.map fun v => v.category).sum ≤ 8) (hdg : decode cc pc = .ok (.invokevirtual 259, 3)) (kk : W p l e R s m args below meth c H locs cells slots Q (F0 m (pc + 3) ls (.int (b2i ((0 ≤ v ∧ v < r 0) ∧ 0 ≤ n ∧ n ≤ 40)) :: rest))) : W p l e R s m args below meth c H locs cells slots Q (F0 m pc ls (.int n :: .int v :: .ref (t.2.1 0) :: rest)) := by
  exact kk_Ri (W.runV (As := [.int v, .int n]) (rest := rest) S (k0_areOne l t r x v n b hV) (cwV 2 S.2.2.2.2 (lw_V q864 q866 qs22 q101 q867) rfl rfl rfl (by decide +kernel) ⟨hR.1, by have := hR.2.1; show 8 + (3 + 11) + 38 * 2 ≤ R.locals; omega⟩) ⟨c_blind, c_recv hK hP, c_pre hK hP⟩ rfl rfl hsz rfl (lv_room hrest) hdg ⟨hR.2.2.1, hR.2.2.2⟩) kk
theorem cc_mostBy (S : CallFix p m c cc nL s args lw_all RX0) (hK : cK t s) (hP : cX t r x H) (hS : va_S (cA t) H0 H locs) (hR : kRm R 11 cells slots) (hsz : ls.size = nL) (k : Nat) (w : Nat) (y : Nat) (n : Nat) (b : Nat) (hk : k < 8) (hw : w = 0 ∨ w = 1 ∨ w = 3) (hy : y = gN w + 1) (hV : pV b r) (hbn : b + n < 2 ^ 30) {i0 : Int32} (e0 : i0 = nI k) {i1 : Int32} (e1 : i1 = nI w) {i2 : Int32} (e2 : i2 = nI y) {i3 : Int32} (e3 : i3 = nI n) (hrest : (rest.map fun v => v.category).sum ≤ 8) (hdg : decode cc pc = .ok (.invokevirtual 262, 3)) (kk : ∀ (x1 : Nat → Rw) (H1 : Heap) (locs1 : List Loc), cJ (x) x1 → cX t (r) x1 H1 → va_S (cA t) H0 H1 locs1 → W p l e R s m args below meth c H1 locs1 cells slots Q (F0 m (pc + 3) ls (.int ((p_by r k w n).1) :: rest))) : W p l e R s m args below meth c H locs cells slots Q (F0 m pc ls (.int i3 :: .int i2 :: .int i1 :: .int i0 :: .ref (t.2.1 0) :: rest)) := by
  subst e0
  subst e1
  subst e2
  subst e3
  exact kk_Wi (W.runV (As := [.int (nI k), .int (nI w), .int (nI y), .int (nI n)]) (rest := rest) S (k0_mostBy l t r x k w y n b hk hw hy hV hbn) (cwV 4 S.2.2.2.2 (lw_V q868 q870 qs23 q101 q871) rfl rfl rfl (by decide +kernel) ⟨hR.1, by have := hR.2.1; show 8 + (10 + 11) + 38 * 10 ≤ R.locals; omega⟩) ⟨c_blind, c_recv hK hP, c_pre hK hP⟩ rfl rfl hsz rfl (lv_room hrest) hdg ⟨hR.2.2.1, hR.2.2.2⟩) hS (fun _ h => h) (fun _ h => h) (fun H1 locs1 hB _ _ hS => by obtain ⟨x1, hj, hB⟩ := hB; exact kk x1 H1 locs1 hj hB hS)
end CC
set_option maxHeartbeats 4000000 in
set_option maxRecDepth 100000 in
theorem k0_lay (l : Launch) (t : CT) (r : Rw) (x : Nat → Rw) (a : Int32) (n : Int32) (b : Nat) (hV : pV b r) (hb : b ≤ 99999) : Met l yX0_lay (ws_ yX0_lay cX0_lay 3 (some .int)) (rmF 11) (va_Pc [.ref (t.2.1 0), .int a, .int n] (fun U => cK t U ∧ cX t r x U.heap)) (kW (some (.int ((o_lay r a n).1))) (fun H => ∃ x1, cJ (fx x (o_lay r a n).2.2) x1 ∧ cX t ((o_lay r a n).2.1) x1 H) (cA t)) 0 0 (cA t) := by
  refine kk_start (by decide) (Nat.le_of_ble_eq_true rfl) ?_
  intro p e s m below meth c S hr hlk hin hB ls hl
  obtain ⟨hK, hP⟩ := hB
  have hx := S.1
  have hb := S.2.1
  have hown : s.vm.findClass RX0 = some m.cls := S.2.2.2.1
  have hts := S.2.2.2.2
  have hS : va_S (cA t) s.heap s.heap [] := va_S.rf
  have hl : lv_has ls 3 [(0, .ref (t.2.1 0)), (1, .int (a)), (2, .int (n))] := hl
  have hn := hV.n.1
  have hn8 := hV.n.2
  refine lv_aload_n hx hb dX0_lay_0 rfl (lv_at hl 0 rfl) ?_
  refine lv_iload_n hx hb dX0_lay_1 rfl (lv_at hl 1 rfl) ?_
  refine lv_iload_n hx hb dX0_lay_2 rfl (lv_at hl 2 rfl) ?_
  refine cc_areOne S hK hP (rm_ok (Nat.le_of_ble_eq_true rfl)) hl.1 (b) hV (Nat.le_of_ble_eq_true rfl) dX0_lay_3 ?_
  refine kb_ifeq (tgt := 21) S dX0_lay_6 (by decide) (fun c_6 => ?_) (fun c_6 => ?_)
  · skip
    refine lv_aload_n hx hb dX0_lay_21 rfl (lv_at hl 0 rfl) ?_
    refine lv_iconst (v := 0) hx hb dX0_lay_22 (by decide) ?_
    refine cc_finding S hK hP hS (rm_ok (Nat.le_of_ble_eq_true rfl)) hl.1 (0) (by omega) rfl (Nat.le_of_ble_eq_true rfl) dX0_lay_23 (fun H locs hP hS => ?_)
    have ho : o_lay r a n = (fnd 0, r, some 0) := by first | (simp only [o_lay, c_6, reduceIte, and_self, oF, oK]; done) | (simp [o_lay, oF, oK, fnd, c_6]; done) | (unfold o_lay oF oK; grind)
    exact kk_iretW S hr hlk hS (by rw [ho]; exact ⟨_, ((cJ.rf _)).fnd 0, hP⟩) (by rw [ho]) dX0_lay_26
  · skip
    obtain ⟨a_, ha_, rfl⟩ := nat_of_lt (n := pN r) (hn) (by omega) c_6.1
    have hcl_a_ := nI_clamp (n := a_) (by omega)
    obtain ⟨n_, hn_, rfl⟩ := nat_of_le (n := 40) (rfl) (by omega) c_6.2
    have hcl_n_ := nI_clamp (n := n_) (by omega)
    refine lv_aload_n hx hb dX0_lay_9 rfl (lv_at hl 0 rfl) ?_
    refine lv_iload_n hx hb dX0_lay_10 rfl (lv_at hl 1 rfl) ?_
    refine lv_iconst (v := 1) hx hb dX0_lay_11 (by decide) ?_
    refine lv_bipush (v := 6) hx hb dX0_lay_12 (by decide) ?_
    refine lv_iload_n hx hb dX0_lay_14 rfl (lv_at hl 2 rfl) ?_
    refine cc_mostBy S hK hP hS (rm_ok (Nat.le_of_ble_eq_true rfl)) hl.1 (a_) (1) (6) (n_) (b) (by omega) (by decide) rfl hV (by omega) rfl rfl rfl rfl (Nat.le_of_ble_eq_true rfl) dX0_lay_15 (fun x_3 H locs hj_3 hP hS => ?_)
    refine lv_goto (tgt := 26) hx hb dX0_lay_18 (by decide) ?_
    have ho : o_lay r (nI a_) (nI n_) = ((p_by r a_ 1 n_).1, r, none) := by first | (simp only [o_lay, c_6, hcl_a_, hcl_n_, reduceIte, and_self, oF, oK]; done) | (simp [o_lay, oF, oK, fnd, c_6, hcl_a_, hcl_n_]; done) | (unfold o_lay oF oK; grind)
    exact kk_iretW S hr hlk hS (by rw [ho]; exact ⟨_, ((cJ.rf _)).tr hj_3, hP⟩) (by rw [ho]) dX0_lay_26
set_option maxHeartbeats 4000000 in
set_option maxRecDepth 100000 in
theorem k0_kindFor (l : Launch) (t : CT) (r : Rw) (x : Nat → Rw) (a : Int32) (n : Int32) (b : Nat) (hV : pV b r) (hb : b ≤ 99999) : Met l yX0_kindFor (ws_ yX0_kindFor cX0_kindFor 3 (some .int)) (rmF 11) (va_Pc [.ref (t.2.1 0), .int a, .int n] (fun U => cK t U ∧ cX t r x U.heap)) (kW (some (.int ((o_kindFor r a n).1))) (fun H => ∃ x1, cJ (fx x (o_kindFor r a n).2.2) x1 ∧ cX t ((o_kindFor r a n).2.1) x1 H) (cA t)) 0 0 (cA t) := by
  refine kk_start (by decide) (Nat.le_of_ble_eq_true rfl) ?_
  intro p e s m below meth c S hr hlk hin hB ls hl
  obtain ⟨hK, hP⟩ := hB
  have hx := S.1
  have hb := S.2.1
  have hown : s.vm.findClass RX0 = some m.cls := S.2.2.2.1
  have hts := S.2.2.2.2
  have hS : va_S (cA t) s.heap s.heap [] := va_S.rf
  have hl : lv_has ls 3 [(0, .ref (t.2.1 0)), (1, .int (a)), (2, .int (n))] := hl
  have hn := hV.n.1
  have hn8 := hV.n.2
  refine lv_aload_n hx hb dX0_kindFor_0 rfl (lv_at hl 0 rfl) ?_
  refine lv_iload_n hx hb dX0_kindFor_1 rfl (lv_at hl 1 rfl) ?_
  refine lv_iload_n hx hb dX0_kindFor_2 rfl (lv_at hl 2 rfl) ?_
  refine cc_areOne S hK hP (rm_ok (Nat.le_of_ble_eq_true rfl)) hl.1 (b) hV (Nat.le_of_ble_eq_true rfl) dX0_kindFor_3 ?_
  refine kb_ifeq (tgt := 21) S dX0_kindFor_6 (by decide) (fun c_6 => ?_) (fun c_6 => ?_)
  · skip
    refine lv_aload_n hx hb dX0_kindFor_21 rfl (lv_at hl 0 rfl) ?_
    refine lv_iconst (v := 0) hx hb dX0_kindFor_22 (by decide) ?_
    refine cc_finding S hK hP hS (rm_ok (Nat.le_of_ble_eq_true rfl)) hl.1 (0) (by omega) rfl (Nat.le_of_ble_eq_true rfl) dX0_kindFor_23 (fun H locs hP hS => ?_)
    have ho : o_kindFor r a n = (fnd 0, r, some 0) := by first | (simp only [o_kindFor, c_6, reduceIte, and_self, oF, oK]; done) | (simp [o_kindFor, oF, oK, fnd, c_6]; done) | (unfold o_kindFor oF oK; grind)
    exact kk_iretW S hr hlk hS (by rw [ho]; exact ⟨_, ((cJ.rf _)).fnd 0, hP⟩) (by rw [ho]) dX0_kindFor_26
  · skip
    obtain ⟨a_, ha_, rfl⟩ := nat_of_lt (n := pN r) (hn) (by omega) c_6.1
    have hcl_a_ := nI_clamp (n := a_) (by omega)
    obtain ⟨n_, hn_, rfl⟩ := nat_of_le (n := 40) (rfl) (by omega) c_6.2
    have hcl_n_ := nI_clamp (n := n_) (by omega)
    refine lv_aload_n hx hb dX0_kindFor_9 rfl (lv_at hl 0 rfl) ?_
    refine lv_iload_n hx hb dX0_kindFor_10 rfl (lv_at hl 1 rfl) ?_
    refine lv_iconst (v := 0) hx hb dX0_kindFor_11 (by decide) ?_
    refine lv_bipush (v := 7) hx hb dX0_kindFor_12 (by decide) ?_
    refine lv_iload_n hx hb dX0_kindFor_14 rfl (lv_at hl 2 rfl) ?_
    refine cc_mostBy S hK hP hS (rm_ok (Nat.le_of_ble_eq_true rfl)) hl.1 (a_) (0) (7) (n_) (b) (by omega) (by decide) rfl hV (by omega) rfl rfl rfl rfl (Nat.le_of_ble_eq_true rfl) dX0_kindFor_15 (fun x_3 H locs hj_3 hP hS => ?_)
    refine lv_goto (tgt := 26) hx hb dX0_kindFor_18 (by decide) ?_
    have ho : o_kindFor r (nI a_) (nI n_) = ((p_by r a_ 0 n_).1, r, none) := by first | (simp only [o_kindFor, c_6, hcl_a_, hcl_n_, reduceIte, and_self, oF, oK]; done) | (simp [o_kindFor, oF, oK, fnd, c_6, hcl_a_, hcl_n_]; done) | (unfold o_kindFor oF oK; grind)
    exact kk_iretW S hr hlk hS (by rw [ho]; exact ⟨_, ((cJ.rf _)).tr hj_3, hP⟩) (by rw [ho]) dX0_kindFor_26
set_option maxHeartbeats 4000000 in
set_option maxRecDepth 100000 in
theorem k0_pitchFor (l : Launch) (t : CT) (r : Rw) (x : Nat → Rw) (a : Int32) (n : Int32) (b : Nat) (hV : pV b r) (hb : b ≤ 99999) : Met l yX0_pitchFor (ws_ yX0_pitchFor cX0_pitchFor 3 (some .int)) (rmF 11) (va_Pc [.ref (t.2.1 0), .int a, .int n] (fun U => cK t U ∧ cX t r x U.heap)) (kW (some (.int ((o_pitchFor r a n).1))) (fun H => ∃ x1, cJ (fx x (o_pitchFor r a n).2.2) x1 ∧ cX t ((o_pitchFor r a n).2.1) x1 H) (cA t)) 0 0 (cA t) := by
  refine kk_start (by decide) (Nat.le_of_ble_eq_true rfl) ?_
  intro p e s m below meth c S hr hlk hin hB ls hl
  obtain ⟨hK, hP⟩ := hB
  have hx := S.1
  have hb := S.2.1
  have hown : s.vm.findClass RX0 = some m.cls := S.2.2.2.1
  have hts := S.2.2.2.2
  have hS : va_S (cA t) s.heap s.heap [] := va_S.rf
  have hl : lv_has ls 3 [(0, .ref (t.2.1 0)), (1, .int (a)), (2, .int (n))] := hl
  have hn := hV.n.1
  have hn8 := hV.n.2
  refine lv_aload_n hx hb dX0_pitchFor_0 rfl (lv_at hl 0 rfl) ?_
  refine lv_iload_n hx hb dX0_pitchFor_1 rfl (lv_at hl 1 rfl) ?_
  refine lv_iload_n hx hb dX0_pitchFor_2 rfl (lv_at hl 2 rfl) ?_
  refine cc_areOne S hK hP (rm_ok (Nat.le_of_ble_eq_true rfl)) hl.1 (b) hV (Nat.le_of_ble_eq_true rfl) dX0_pitchFor_3 ?_
  refine kb_ifeq (tgt := 21) S dX0_pitchFor_6 (by decide) (fun c_6 => ?_) (fun c_6 => ?_)
  · skip
    refine lv_aload_n hx hb dX0_pitchFor_21 rfl (lv_at hl 0 rfl) ?_
    refine lv_iconst (v := 0) hx hb dX0_pitchFor_22 (by decide) ?_
    refine cc_finding S hK hP hS (rm_ok (Nat.le_of_ble_eq_true rfl)) hl.1 (0) (by omega) rfl (Nat.le_of_ble_eq_true rfl) dX0_pitchFor_23 (fun H locs hP hS => ?_)
    have ho : o_pitchFor r a n = (fnd 0, r, some 0) := by first | (simp only [o_pitchFor, c_6, reduceIte, and_self, oF, oK]; done) | (simp [o_pitchFor, oF, oK, fnd, c_6]; done) | (unfold o_pitchFor oF oK; grind)
    exact kk_iretW S hr hlk hS (by rw [ho]; exact ⟨_, ((cJ.rf _)).fnd 0, hP⟩) (by rw [ho]) dX0_pitchFor_26
  · skip
    obtain ⟨a_, ha_, rfl⟩ := nat_of_lt (n := pN r) (hn) (by omega) c_6.1
    have hcl_a_ := nI_clamp (n := a_) (by omega)
    obtain ⟨n_, hn_, rfl⟩ := nat_of_le (n := 40) (rfl) (by omega) c_6.2
    have hcl_n_ := nI_clamp (n := n_) (by omega)
    refine lv_aload_n hx hb dX0_pitchFor_9 rfl (lv_at hl 0 rfl) ?_
    refine lv_iload_n hx hb dX0_pitchFor_10 rfl (lv_at hl 1 rfl) ?_
    refine lv_iconst (v := 3) hx hb dX0_pitchFor_11 (by decide) ?_
    refine lv_bipush (v := 12) hx hb dX0_pitchFor_12 (by decide) ?_
    refine lv_iload_n hx hb dX0_pitchFor_14 rfl (lv_at hl 2 rfl) ?_
    refine cc_mostBy S hK hP hS (rm_ok (Nat.le_of_ble_eq_true rfl)) hl.1 (a_) (3) (12) (n_) (b) (by omega) (by decide) rfl hV (by omega) rfl rfl rfl rfl (Nat.le_of_ble_eq_true rfl) dX0_pitchFor_15 (fun x_3 H locs hj_3 hP hS => ?_)
    refine lv_goto (tgt := 26) hx hb dX0_pitchFor_18 (by decide) ?_
    have ho : o_pitchFor r (nI a_) (nI n_) = ((p_by r a_ 3 n_).1, r, none) := by first | (simp only [o_pitchFor, c_6, hcl_a_, hcl_n_, reduceIte, and_self, oF, oK]; done) | (simp [o_pitchFor, oF, oK, fnd, c_6, hcl_a_, hcl_n_]; done) | (unfold o_pitchFor oF oK; grind)
    exact kk_iretW S hr hlk hS (by rw [ho]; exact ⟨_, ((cJ.rf _)).tr hj_3, hP⟩) (by rw [ho]) dX0_pitchFor_26
set_option maxHeartbeats 4000000 in
set_option maxRecDepth 100000 in
theorem k0_leastHoops (l : Launch) (t : CT) (r : Rw) (x : Nat → Rw) (k : Nat) (n : Nat) (b : Nat) (hk : k < 8) (hV : pV b r) (hbn : b + n < 2 ^ 30) : Met l yX0_leastHoops (ws_ yX0_leastHoops cX0_leastHoops 6 (some .int)) (rmF 10) (va_Pc [.ref (t.2.1 0), .int (nI k), .int (nI n)] (fun U => cK t U ∧ cX t r x U.heap)) (kW (some (.int (oi (p_hoop r k n)))) (fun H => ∃ x1, cJ (x) x1 ∧ cX t (r) x1 H) (cA t)) 0 0 (cA t) := by
  refine kk_start (by decide) (Nat.le_of_ble_eq_true rfl) ?_
  intro p e s m below meth c S hr hlk hin hB ls hl
  obtain ⟨hK, hP⟩ := hB
  have hx := S.1
  have hb := S.2.1
  have hown : s.vm.findClass RX0 = some m.cls := S.2.2.2.1
  have hts := S.2.2.2.2
  have hS : va_S (cA t) s.heap s.heap [] := va_S.rf
  have hl : lv_has ls 6 [(0, .ref (t.2.1 0)), (1, .int ((nI k))), (2, .int ((nI n)))] := hl
  refine lv_aload_n hx hb dX0_leastHoops_0 rfl (lv_at hl 0 rfl) ?_
  refine cg_d S hK hP dX0_leastHoops_1 ?_
  refine cd_cask S hK hP dX0_leastHoops_4 ?_
  refine lv_iconst (v := 4) hx hb dX0_leastHoops_7 (by decide) ?_
  refine ck_aald S hK hP (4) (by omega) rfl dX0_leastHoops_8 ?_
  refine lv_iload_n hx hb dX0_leastHoops_9 rfl (lv_at hl 1 rfl) ?_
  refine ck_ldc S hK hP (4) (by omega) (k) (by omega) rfl dX0_leastHoops_10 ?_
  refine lv_istore_n (lv' := [(3, .int (r (16 + 7 * k + 4))), (0, .ref (t.2.1 0)), (1, .int ((nI k))), (2, .int ((nI n)))]) hx hb dX0_leastHoops_11 rfl hl (by decide) rfl (fun ls hl => ?_)
  refine lv_aload_n hx hb dX0_leastHoops_12 rfl (lv_at hl 1 rfl) ?_
  refine cg_d S hK hP dX0_leastHoops_13 ?_
  refine cd_cask S hK hP dX0_leastHoops_16 ?_
  refine lv_bipush (v := 6) hx hb dX0_leastHoops_19 (by decide) ?_
  refine ck_aald S hK hP (6) (by omega) rfl dX0_leastHoops_21 ?_
  refine lv_iload_n hx hb dX0_leastHoops_22 rfl (lv_at hl 2 rfl) ?_
  refine ck_ldc S hK hP (6) (by omega) (k) (by omega) rfl dX0_leastHoops_23 ?_
  refine lv_istore (lv' := [(4, .int (r (16 + 7 * k + 6))), (3, .int (r (16 + 7 * k + 4))), (0, .ref (t.2.1 0)), (1, .int ((nI k))), (2, .int ((nI n)))]) hx hb dX0_leastHoops_24 hl (by decide) rfl (fun ls hl => ?_)
  refine lv_iconst (v := 0) hx hb dX0_leastHoops_26 (by decide) ?_
  refine lv_istore (lv' := [(5, .int (0)), (4, .int (r (16 + 7 * k + 6))), (3, .int (r (16 + 7 * k + 4))), (0, .ref (t.2.1 0)), (1, .int ((nI k))), (2, .int ((nI n)))]) hx hb dX0_leastHoops_27 hl (by decide) rfl (fun ls hl => ?_)
  refine lv_aload_n hx hb dX0_leastHoops_29 rfl (lv_at hl 3 rfl) ?_
  refine cg_d S hK hP dX0_leastHoops_30 ?_
  refine cd_cask S hK hP dX0_leastHoops_33 ?_
  refine lv_iconst (v := 4) hx hb dX0_leastHoops_36 (by decide) ?_
  refine ck_aald S hK hP (4) (by omega) rfl dX0_leastHoops_37 ?_
  refine lv_iload_n hx hb dX0_leastHoops_38 rfl (lv_at hl 4 rfl) ?_
  refine lv_iload hx hb dX0_leastHoops_39 (lv_at hl 0 rfl) ?_
  refine ck_stc S hK hP hS (fun _ h => h) (4) (by omega) (k) (by omega) rfl dX0_leastHoops_41 (fun H locs hP hS => ?_)
  have lp_42 : ∀ (j v : Nat) (x1 : Nat → Rw) (H : Heap) (locs : List Loc) (ls : Array Slot), v + j = 201 → (ffs (p_hoP r k n) j v = p_hoop r k n) → (cJ x x1) → cX t ((upd r (16 + 7 * k + 4) (nI v))) (x1) H → va_S (cA t) s.heap H locs → lv_has ls 6 [(0, .ref (t.2.1 0)), (1, .int ((nI k))), (2, .int ((nI n))), (3, .int (r (16 + 7 * k + 4))), (4, .int (r (16 + 7 * k + 6))), (5, .int ((nI v)))] → W p l e (rmF 10) s m ([.ref (t.2.1 0), .int (nI k), .int (nI n)] : List Value).toArray below meth c H locs 0 0 (MQ below (kW (some (.int (oi (p_hoop r k n)))) (fun H => ∃ x1, cJ (x) x1 ∧ cX t (r) x1 H) (cA t)) ([.ref (t.2.1 0), .int (nI k), .int (nI n)] : List Value).toArray s 0 0 (cA t)) (F0 m 42 ls []) := by
    intro j
    induction j with
    | zero =>
      intro v  x1 H locs ls hkj he hx1 hP hS hl
      refine lv_iload hx hb dX0_leastHoops_42 (lv_at hl 5 rfl) ?_
      refine lv_sipush (v := 200) hx hb dX0_leastHoops_44 (by decide) ?_
      refine kb_gt_n (tgt := 82) (a := v) (b := 200) S rfl rfl (by omega) (by omega) dX0_leastHoops_47 (by decide) (fun c_47 => ?_) (fun c_47 => ?_)
      · skip
        have hres : p_hoop r k n = none := by rw [← he]; rfl
        refine lv_aload_n hx hb dX0_leastHoops_82 rfl (lv_at hl 0 rfl) ?_
        refine cg_d S hK hP dX0_leastHoops_83 ?_
        refine cd_cask S hK hP dX0_leastHoops_86 ?_
        refine lv_iconst (v := 4) hx hb dX0_leastHoops_89 (by decide) ?_
        refine ck_aald S hK hP (4) (by omega) rfl dX0_leastHoops_90 ?_
        refine lv_iload_n hx hb dX0_leastHoops_91 rfl (lv_at hl 1 rfl) ?_
        refine lv_iload_n hx hb dX0_leastHoops_92 rfl (lv_at hl 3 rfl) ?_
        refine ck_stc S hK hP hS (fun _ h => h) (4) (by omega) (k) (by omega) rfl dX0_leastHoops_93 (fun H locs hP hS => ?_)
        rw [up_up, up_eta] at hP
        refine lv_iload hx hb dX0_leastHoops_94 (lv_at hl 5 rfl) ?_
        refine lv_sipush (v := 200) hx hb dX0_leastHoops_96 (by decide) ?_
        refine kb_gt_n (tgt := 107) (a := v) (b := 200) S rfl rfl (by omega) (by omega) dX0_leastHoops_99 (by decide) (fun c_99 => ?_) (fun c_99 => ?_)
        · skip
          refine lv_iconst (v := (-1)) hx hb dX0_leastHoops_107 (by decide) ?_
          exact kk_iretW S hr hlk hS (⟨_, hx1, hP⟩) (by rw [hres]; rfl) dX0_leastHoops_108
        · exact absurd c_99 (by omega)
      · exact absurd c_47 (by omega)
    | succ j ih =>
      intro v  x1 H locs ls hkj he hx1 hP hS hl
      have ih_42 := ih
      refine lv_iload hx hb dX0_leastHoops_42 (lv_at hl 5 rfl) ?_
      refine lv_sipush (v := 200) hx hb dX0_leastHoops_44 (by decide) ?_
      refine kb_gt_n (tgt := 82) (a := v) (b := 200) S rfl rfl (by omega) (by omega) dX0_leastHoops_47 (by decide) (fun c_47 => ?_) (fun c_47 => ?_)
      · exact absurd c_47 (by omega)
      · skip
        refine lv_aload_n hx hb dX0_leastHoops_50 rfl (lv_at hl 0 rfl) ?_
        refine lv_iload_n hx hb dX0_leastHoops_51 rfl (lv_at hl 1 rfl) ?_
        refine lv_bipush (v := 6) hx hb dX0_leastHoops_52 (by decide) ?_
        refine lv_iload_n hx hb dX0_leastHoops_54 rfl (lv_at hl 2 rfl) ?_
        refine cc_toldBehind S hK hP hS (rm_ok (Nat.le_of_ble_eq_true rfl)) hl.1 (k) (6) (n) (b) hk (by decide) (pV_free hV (by omega)) (by omega) rfl rfl rfl (Nat.le_of_ble_eq_true rfl) dX0_leastHoops_55 (fun x_1 H locs hj_1 hP hS => ?_)
        refine lv_iload hx hb dX0_leastHoops_58 (lv_at hl 4 rfl) ?_
        refine lv_icmp_eq (tgt := 82) hx hb dX0_leastHoops_60 (by decide) (fun c_60 => ?_) (fun c_60 => ?_)
        · skip
          have hres : p_hoop r k n = some v := by rw [← he, ffs, if_pos (show p_hoP r k n v = true from decide_eq_true c_60)]
          refine lv_aload_n hx hb dX0_leastHoops_82 rfl (lv_at hl 0 rfl) ?_
          refine cg_d S hK hP dX0_leastHoops_83 ?_
          refine cd_cask S hK hP dX0_leastHoops_86 ?_
          refine lv_iconst (v := 4) hx hb dX0_leastHoops_89 (by decide) ?_
          refine ck_aald S hK hP (4) (by omega) rfl dX0_leastHoops_90 ?_
          refine lv_iload_n hx hb dX0_leastHoops_91 rfl (lv_at hl 1 rfl) ?_
          refine lv_iload_n hx hb dX0_leastHoops_92 rfl (lv_at hl 3 rfl) ?_
          refine ck_stc S hK hP hS (fun _ h => h) (4) (by omega) (k) (by omega) rfl dX0_leastHoops_93 (fun H locs hP hS => ?_)
          rw [up_up, up_eta] at hP
          refine lv_iload hx hb dX0_leastHoops_94 (lv_at hl 5 rfl) ?_
          refine lv_sipush (v := 200) hx hb dX0_leastHoops_96 (by decide) ?_
          refine kb_gt_n (tgt := 107) (a := v) (b := 200) S rfl rfl (by omega) (by omega) dX0_leastHoops_99 (by decide) (fun c_99 => ?_) (fun c_99 => ?_)
          · exact absurd c_99 (by omega)
          · skip
            refine lv_iload hx hb dX0_leastHoops_102 (lv_at hl 5 rfl) ?_
            refine lv_goto (tgt := 108) hx hb dX0_leastHoops_104 (by decide) ?_
            exact kk_iretW S hr hlk hS (⟨_, (hx1).tr hj_1, hP⟩) (by rw [hres]; rfl) dX0_leastHoops_108
        · skip
          refine lv_iinc (v := (nI (v + 1))) (lv' := [(5, .int ((nI (v + 1)))), (0, .ref (t.2.1 0)), (1, .int ((nI k))), (2, .int ((nI n))), (3, .int (r (16 + 7 * k + 4))), (4, .int (r (16 + 7 * k + 6)))]) hx hb dX0_leastHoops_63 hl (k := 5) rfl (nn_1 rfl) (by decide) rfl (fun ls hl => ?_)
          refine lv_aload_n hx hb dX0_leastHoops_66 rfl (lv_at hl 1 rfl) ?_
          refine cg_d S hK hP dX0_leastHoops_67 ?_
          refine cd_cask S hK hP dX0_leastHoops_70 ?_
          refine lv_iconst (v := 4) hx hb dX0_leastHoops_73 (by decide) ?_
          refine ck_aald S hK hP (4) (by omega) rfl dX0_leastHoops_74 ?_
          refine lv_iload_n hx hb dX0_leastHoops_75 rfl (lv_at hl 2 rfl) ?_
          refine lv_iload hx hb dX0_leastHoops_76 (lv_at hl 0 rfl) ?_
          refine ck_stc S hK hP hS (fun _ h => h) (4) (by omega) (k) (by omega) rfl dX0_leastHoops_78 (fun H locs hP hS => ?_)
          rw [up_up] at hP
          refine lv_goto (tgt := 42) hx hb dX0_leastHoops_79 (by decide) ?_
          exact ih_42 ((v + 1)) _ _ _ ls (by omega) (by have h := he; rw [ffs, if_neg (show ¬ p_hoP r k n v = true from fun z => c_60 (of_decide_eq_true z))] at h; exact h) ((hx1).tr hj_1) hP hS (lv_sub hl [1, 2, 3, 4, 5, 0] rfl)
  exact lp_42 201 0 _ _ _ ls (by omega) (rfl) ((cJ.rf _)) hP hS (lv_sub hl [3, 4, 5, 2, 1, 0] rfl)
set_option maxHeartbeats 4000000 in
set_option maxRecDepth 100000 in
theorem k0_greatestFrost (l : Launch) (t : CT) (r : Rw) (x : Nat → Rw) (k : Nat) (n : Nat) (b : Nat) (hk : k < 6) (hV : pV b r) (hbn : b + n < 2 ^ 30) : Met l yX0_greatestFrost (ws_ yX0_greatestFrost cX0_greatestFrost 6 (some .int)) (rmF 11) (va_Pc [.ref (t.2.1 0), .int (nI k), .int (nI n)] (fun U => cK t U ∧ cX t r x U.heap)) (kW (some (.int (oi (p_fros r k n)))) (fun H => ∃ x1, cJ (x) x1 ∧ cX t (r) x1 H) (cA t)) 0 0 (cA t) := by
  refine kk_start (by decide) (Nat.le_of_ble_eq_true rfl) ?_
  intro p e s m below meth c S hr hlk hin hB ls hl
  obtain ⟨hK, hP⟩ := hB
  have hx := S.1
  have hb := S.2.1
  have hown : s.vm.findClass RX0 = some m.cls := S.2.2.2.1
  have hts := S.2.2.2.2
  have hS : va_S (cA t) s.heap s.heap [] := va_S.rf
  have hl : lv_has ls 6 [(0, .ref (t.2.1 0)), (1, .int ((nI k))), (2, .int ((nI n)))] := hl
  refine lv_aload_n hx hb dX0_greatestFrost_0 rfl (lv_at hl 0 rfl) ?_
  refine cg_d S hK hP dX0_greatestFrost_1 ?_
  refine cd_frost S hK hP dX0_greatestFrost_4 ?_
  refine lv_iload_n hx hb dX0_greatestFrost_7 rfl (lv_at hl 1 rfl) ?_
  refine ck_ldf S hK hP (k) (by omega) rfl dX0_greatestFrost_8 ?_
  refine lv_istore_n (lv' := [(3, .int (r (4 + k))), (0, .ref (t.2.1 0)), (1, .int ((nI k))), (2, .int ((nI n)))]) hx hb dX0_greatestFrost_9 rfl hl (by decide) rfl (fun ls hl => ?_)
  refine lv_iconst (v := (-1)) hx hb dX0_greatestFrost_10 (by decide) ?_
  refine lv_istore (lv' := [(4, .int ((-1))), (3, .int (r (4 + k))), (0, .ref (t.2.1 0)), (1, .int ((nI k))), (2, .int ((nI n)))]) hx hb dX0_greatestFrost_11 hl (by decide) rfl (fun ls hl => ?_)
  refine lv_iconst (v := 0) hx hb dX0_greatestFrost_13 (by decide) ?_
  refine lv_istore (lv' := [(5, .int (0)), (4, .int ((-1))), (3, .int (r (4 + k))), (0, .ref (t.2.1 0)), (1, .int ((nI k))), (2, .int ((nI n)))]) hx hb dX0_greatestFrost_14 hl (by decide) rfl (fun ls hl => ?_)
  have lp_16 : ∀ (j v : Nat) (bb : Option Nat) (r1 : Rw) (x1 : Nat → Rw) (H : Heap) (locs : List Loc) (ls : Array Slot), v + j = 10 → (bb = dn (p_frP r k n) v) → (∃ u, r1 = upd r (4 + k) u) → (cJ x x1) → (∀ i, bb = some i → i < 10) → cX t (r1) (x1) H → va_S (cA t) s.heap H locs → lv_has ls 6 [(0, .ref (t.2.1 0)), (1, .int ((nI k))), (2, .int ((nI n))), (3, .int (r (4 + k))), (4, .int ((oi bb))), (5, .int ((nI v)))] → W p l e (rmF 11) s m ([.ref (t.2.1 0), .int (nI k), .int (nI n)] : List Value).toArray below meth c H locs 0 0 (MQ below (kW (some (.int (oi (p_fros r k n)))) (fun H => ∃ x1, cJ (x) x1 ∧ cX t (r) x1 H) (cA t)) ([.ref (t.2.1 0), .int (nI k), .int (nI n)] : List Value).toArray s 0 0 (cA t)) (F0 m 16 ls []) := by
    intro j
    induction j with
    | zero =>
      intro v bb r1 x1 H locs ls hkj he hr1 hx1 hb8 hP hS hl
      obtain ⟨u1, rfl⟩ := hr1
      refine lv_iload hx hb dX0_greatestFrost_16 (lv_at hl 5 rfl) ?_
      refine lv_bipush (v := 9) hx hb dX0_greatestFrost_18 (by decide) ?_
      refine kb_gt_n (tgt := 64) (a := v) (b := 9) S rfl rfl (by omega) (by omega) dX0_greatestFrost_20 (by decide) (fun c_20 => ?_) (fun c_20 => ?_)
      · skip
        refine lv_aload_n hx hb dX0_greatestFrost_64 rfl (lv_at hl 0 rfl) ?_
        refine cg_d S hK hP dX0_greatestFrost_65 ?_
        refine cd_frost S hK hP dX0_greatestFrost_68 ?_
        refine lv_iload_n hx hb dX0_greatestFrost_71 rfl (lv_at hl 1 rfl) ?_
        refine lv_iload_n hx hb dX0_greatestFrost_72 rfl (lv_at hl 3 rfl) ?_
        refine ck_stf S hK hP hS (fun _ h => h) (k) (by omega) rfl dX0_greatestFrost_73 (fun H locs hP hS => ?_)
        rw [up_up, up_eta] at hP
        refine lv_iload hx hb dX0_greatestFrost_74 (lv_at hl 4 rfl) ?_
        exact kk_iretW S hr hlk hS (⟨_, hx1, hP⟩) (by rw [he, show v = 10 by omega]; rfl) dX0_greatestFrost_76
      · exact absurd c_20 (by omega)
    | succ j ih =>
      intro v bb r1 x1 H locs ls hkj he hr1 hx1 hb8 hP hS hl
      have ih_16 := ih
      obtain ⟨u1, rfl⟩ := hr1
      refine lv_iload hx hb dX0_greatestFrost_16 (lv_at hl 5 rfl) ?_
      refine lv_bipush (v := 9) hx hb dX0_greatestFrost_18 (by decide) ?_
      refine kb_gt_n (tgt := 64) (a := v) (b := 9) S rfl rfl (by omega) (by omega) dX0_greatestFrost_20 (by decide) (fun c_20 => ?_) (fun c_20 => ?_)
      · exact absurd c_20 (by omega)
      · skip
        refine lv_aload_n hx hb dX0_greatestFrost_23 rfl (lv_at hl 0 rfl) ?_
        refine cg_d S hK hP dX0_greatestFrost_24 ?_
        refine cd_frost S hK hP dX0_greatestFrost_27 ?_
        refine lv_iload_n hx hb dX0_greatestFrost_30 rfl (lv_at hl 1 rfl) ?_
        refine lv_iload hx hb dX0_greatestFrost_31 (lv_at hl 5 rfl) ?_
        refine ck_stf S hK hP hS (fun _ h => h) (k) (by omega) rfl dX0_greatestFrost_33 (fun H locs hP hS => ?_)
        rw [up_up] at hP
        refine lv_aload_n hx hb dX0_greatestFrost_34 rfl (lv_at hl 0 rfl) ?_
        refine lv_iload_n hx hb dX0_greatestFrost_35 rfl (lv_at hl 2 rfl) ?_
        refine cc_clapsBehind S hK hP hS (rm_ok (Nat.le_of_ble_eq_true rfl)) hl.1 (n) (b) (pV_free hV (by omega)) (by omega) rfl (Nat.le_of_ble_eq_true rfl) dX0_greatestFrost_36 (fun x_1 H locs hj_1 hP hS => ?_)
        refine lv_aload_n hx hb dX0_greatestFrost_39 rfl (lv_at hl 0 rfl) ?_
        refine cg_d S hK hP dX0_greatestFrost_40 ?_
        refine cd_claps S hK hP dX0_greatestFrost_43 ?_
        refine lv_icmp_ne (tgt := 54) hx hb dX0_greatestFrost_46 (by decide) (fun c_46 => ?_) (fun c_46 => ?_)
        · skip
          refine lv_iload hx hb dX0_greatestFrost_54 (lv_at hl 4 rfl) ?_
          refine lv_istore (lv' := [(4, .int ((oi bb))), (0, .ref (t.2.1 0)), (1, .int ((nI k))), (2, .int ((nI n))), (3, .int (r (4 + k))), (5, .int ((nI v)))]) hx hb dX0_greatestFrost_56 hl (by decide) rfl (fun ls hl => ?_)
          refine lv_iinc (v := (nI (v + 1))) (lv' := [(5, .int ((nI (v + 1)))), (4, .int ((oi bb))), (0, .ref (t.2.1 0)), (1, .int ((nI k))), (2, .int ((nI n))), (3, .int (r (4 + k)))]) hx hb dX0_greatestFrost_58 hl (k := 5) rfl (nn_1 rfl) (by decide) rfl (fun ls hl => ?_)
          refine lv_goto (tgt := 16) hx hb dX0_greatestFrost_61 (by decide) ?_
          exact ih_16 ((v + 1)) bb _ _ _ _ ls (by omega) (by rw [dn, if_neg (show ¬ p_frP r k n v = true from fun z => c_46 ((of_decide_eq_true z).trans (up_n (by omega)).symm)), ← he]) (⟨_, rfl⟩) ((hx1).tr hj_1) (hb8) hP hS (lv_sub hl [2, 3, 4, 5, 1, 0] rfl)
        · skip
          refine lv_iload hx hb dX0_greatestFrost_49 (lv_at hl 5 rfl) ?_
          refine lv_goto (tgt := 56) hx hb dX0_greatestFrost_51 (by decide) ?_
          refine lv_istore (lv' := [(4, .int ((nI v))), (0, .ref (t.2.1 0)), (1, .int ((nI k))), (2, .int ((nI n))), (3, .int (r (4 + k))), (5, .int ((nI v)))]) hx hb dX0_greatestFrost_56 hl (by decide) rfl (fun ls hl => ?_)
          refine lv_iinc (v := (nI (v + 1))) (lv' := [(5, .int ((nI (v + 1)))), (4, .int ((nI v))), (0, .ref (t.2.1 0)), (1, .int ((nI k))), (2, .int ((nI n))), (3, .int (r (4 + k)))]) hx hb dX0_greatestFrost_58 hl (k := 5) rfl (nn_1 rfl) (by decide) rfl (fun ls hl => ?_)
          refine lv_goto (tgt := 16) hx hb dX0_greatestFrost_61 (by decide) ?_
          exact ih_16 ((v + 1)) (some (v)) _ _ _ _ ls (by omega) (by rw [dn, if_pos (show p_frP r k n v = true from decide_eq_true (c_46.trans (up_n (by omega))))]) (⟨_, rfl⟩) ((hx1).tr hj_1) (fun i hi => by cases hi; omega) hP hS (lv_sub hl [2, 3, 4, 5, 1, 0] rfl)
  exact lp_16 10 0 none _ _ _ _ ls (by omega) (rfl) (⟨_, (up_eta r _).symm⟩) ((cJ.rf _)) (fun _ h => by cases h) hP hS (lv_sub hl [3, 4, 5, 2, 1, 0] rfl)
set_option maxHeartbeats 4000000 in
set_option maxRecDepth 100000 in
theorem k0_clapsWithout (l : Launch) (t : CT) (r : Rw) (x : Nat → Rw) (a : Nat) (n : Nat) (b : Nat) (ha : a < 2 ^ 31) (hV : pV b r) (hbn : b + n < 2 ^ 30) : Met l yX0_clapsWithout (wsW_ yX0_clapsWithout cX0_clapsWithout 5 (some .int) [(11, 52, 65, 0), (65, 67, 65, 0)]) (rmF 10) (va_Pc [.ref (t.2.1 0), .int (nI a), .int (nI n)] (fun U => cK t U ∧ cX t r x U.heap)) (kW (some (.int (p_goes n (p_clrs r a) 3))) (fun H => ∃ x1, cJ (x) x1 ∧ cX t (r) x1 H) (cA t)) 0 0 (cA t) := by
  refine kk_startW (by decide) (Nat.le_of_ble_eq_true rfl) ?_
  intro p e s m below meth c S hr hlk hin hB ls hl
  obtain ⟨hK, hP⟩ := hB
  have hx := S.1
  have hb := S.2.1
  have hown : s.vm.findClass RX0 = some m.cls := S.2.2.2.1
  have hts := S.2.2.2.2
  have hS : va_S (cA t) s.heap s.heap [] := va_S.rf
  have hl : lv_has ls 5 [(0, .ref (t.2.1 0)), (1, .int ((nI a))), (2, .int ((nI n)))] := hl
  have hn := hV.n.1
  have hn8 := hV.n.2
  refine lv_aload_n hx hb dX0_clapsWithout_0 rfl (lv_at hl 0 rfl) ?_
  refine cg_aside S hK hP dX0_clapsWithout_1 ?_
  refine lv_aload_n hx hb dX0_clapsWithout_4 rfl (lv_at hl 0 rfl) ?_
  refine cg_d S hK hP dX0_clapsWithout_5 ?_
  refine cb_aside_d S hK hP hS (fun _ h => h) (rm_ok (Nat.le_of_ble_eq_true rfl)) hl.1 (Nat.le_of_ble_eq_true rfl) dX0_clapsWithout_8 (fun H locs hP hS => ?_)
  refine lv_iconst (v := 0) hx hb dX0_clapsWithout_11 (by decide) ?_
  refine lv_istore_n (lv' := [(3, .int (0)), (0, .ref (t.2.1 0)), (1, .int ((nI a))), (2, .int ((nI n)))]) hx hb dX0_clapsWithout_12 rfl hl (by decide) rfl (fun ls hl => ?_)
  have lp_13 : ∀ (j q : Nat) (r1 : Rw) (H : Heap) (locs : List Loc) (ls : Array Slot), q + j = pN r → (lp (p_clr1 a) j q r1 = p_clrs r a) → (kp r r1) → cX t (r1) ((va_up x 3 r)) H → va_S (cA t) s.heap H locs → lv_has ls 5 [(0, .ref (t.2.1 0)), (1, .int ((nI a))), (2, .int ((nI n))), (3, .int ((nI q)))] → W p l e (rmF 10) s m ([.ref (t.2.1 0), .int (nI a), .int (nI n)] : List Value).toArray below meth c H locs 0 0 (MQ below (kW (some (.int (p_goes n (p_clrs r a) 3))) (fun H => ∃ x1, cJ (x) x1 ∧ cX t (r) x1 H) (cA t)) ([.ref (t.2.1 0), .int (nI a), .int (nI n)] : List Value).toArray s 0 0 (cA t)) (F0 m 13 ls []) := by
    intro j
    induction j with
    | zero =>
      intro q  r1 H locs ls hkj he2 hk1 hP hS hl
      refine lv_iload_n hx hb dX0_clapsWithout_13 rfl (lv_at hl 3 rfl) ?_
      refine lv_aload_n hx hb dX0_clapsWithout_14 rfl (lv_at hl 0 rfl) ?_
      refine cg_d S hK hP dX0_clapsWithout_15 ?_
      refine cd_casks S hK hP dX0_clapsWithout_18 ?_
      refine kb_ge_n (tgt := 46) (a := q) (b := (pN r)) S rfl ((hk1 0 (by unfold pm; omega)).trans hn) (by omega) (by omega) dX0_clapsWithout_21 (by decide) (fun c_21 => ?_) (fun c_21 => ?_)
      · skip
        have he0 : r1 = p_clrs r a := he2
        subst he0
        have hVc := hV.kp (kp_clrs hV a)
        refine lv_aload_n hx hb dX0_clapsWithout_46 rfl (lv_at hl 0 rfl) ?_
        refine lv_iload_n hx hb dX0_clapsWithout_47 rfl (lv_at hl 2 rfl) ?_
        refine cc_goesOn S hK hP hS (rm_ok (Nat.le_of_ble_eq_true rfl)) hl.1 (n) (b) hVc (by omega) rfl (Nat.le_of_ble_eq_true rfl) dX0_clapsWithout_48 (fun H locs hP hS => ?_)
        refine lv_istore_n (lv' := [(3, .int (p_goes n (p_clrs r a) 3)), (0, .ref (t.2.1 0)), (1, .int ((nI a))), (2, .int ((nI n)))]) hx hb dX0_clapsWithout_51 rfl hl (by decide) rfl (fun ls hl => ?_)
        refine lv_aload_n hx hb dX0_clapsWithout_52 rfl (lv_at hl 1 rfl) ?_
        refine cg_d S hK hP dX0_clapsWithout_53 ?_
        refine lv_aload_n hx hb dX0_clapsWithout_56 rfl (lv_at hl 1 rfl) ?_
        refine cg_aside S hK hP dX0_clapsWithout_57 ?_
        refine cb_d_aside S hK hP hS (fun _ h => h) (rm_ok (Nat.le_of_ble_eq_true rfl)) hl.1 (Nat.le_of_ble_eq_true rfl) dX0_clapsWithout_60 (fun H locs hP hS => ?_)
        have hP : cX t r (va_up x 3 r) H := hP
        refine lv_iload_n hx hb dX0_clapsWithout_63 rfl (lv_at hl 0 rfl) ?_
        exact kk_iretW S hr hlk hS (⟨_, ((cJ.rf _)).j3, hP⟩) (rfl) dX0_clapsWithout_64
      · exact absurd c_21 (by omega)
    | succ j ih =>
      intro q  r1 H locs ls hkj he2 hk1 hP hS hl
      have ih_13 := ih
      refine lv_iload_n hx hb dX0_clapsWithout_13 rfl (lv_at hl 3 rfl) ?_
      refine lv_aload_n hx hb dX0_clapsWithout_14 rfl (lv_at hl 0 rfl) ?_
      refine cg_d S hK hP dX0_clapsWithout_15 ?_
      refine cd_casks S hK hP dX0_clapsWithout_18 ?_
      refine kb_ge_n (tgt := 46) (a := q) (b := (pN r)) S rfl ((hk1 0 (by unfold pm; omega)).trans hn) (by omega) (by omega) dX0_clapsWithout_21 (by decide) (fun c_21 => ?_) (fun c_21 => ?_)
      · exact absurd c_21 (by omega)
      · skip
        refine lv_iload_n hx hb dX0_clapsWithout_24 rfl (lv_at hl 1 rfl) ?_
        refine lv_iload_n hx hb dX0_clapsWithout_25 rfl (lv_at hl 3 rfl) ?_
        refine cc_has S (rm_ok (Nat.le_of_ble_eq_true rfl)) hl.1 (a) (q) (by omega) (by omega) rfl rfl (Nat.le_of_ble_eq_true rfl) dX0_clapsWithout_26 ?_
        refine kb_ifeq (tgt := 40) S dX0_clapsWithout_29 (by decide) (fun c_29 => ?_) (fun c_29 => ?_)
        · skip
          refine lv_iinc (v := (nI (q + 1))) (lv' := [(3, .int ((nI (q + 1)))), (0, .ref (t.2.1 0)), (1, .int ((nI a))), (2, .int ((nI n)))]) hx hb dX0_clapsWithout_40 hl (k := 3) rfl (nn_1 rfl) (by decide) rfl (fun ls hl => ?_)
          refine lv_goto (tgt := 13) hx hb dX0_clapsWithout_43 (by decide) ?_
          exact ih_13 ((q + 1)) _ _ _ ls (by omega) (by have h := he2; rw [lp, p_clr1, if_neg c_29] at h; exact h) (hk1) hP hS (lv_sub hl [1, 2, 3, 0] rfl)
        · skip
          refine lv_aload_n hx hb dX0_clapsWithout_32 rfl (lv_at hl 0 rfl) ?_
          refine cg_d S hK hP dX0_clapsWithout_33 ?_
          refine lv_iload_n hx hb dX0_clapsWithout_36 rfl (lv_at hl 3 rfl) ?_
          refine d0_empties S hK hP hS (rm_ok (Nat.le_of_ble_eq_true rfl)) hl.1 (q) (by omega) rfl (Nat.le_of_ble_eq_true rfl) dX0_clapsWithout_37 (fun H locs hP hS => ?_)
          refine lv_iinc (v := (nI (q + 1))) (lv' := [(3, .int ((nI (q + 1)))), (0, .ref (t.2.1 0)), (1, .int ((nI a))), (2, .int ((nI n)))]) hx hb dX0_clapsWithout_40 hl (k := 3) rfl (nn_1 rfl) (by decide) rfl (fun ls hl => ?_)
          refine lv_goto (tgt := 13) hx hb dX0_clapsWithout_43 (by decide) ?_
          exact ih_13 ((q + 1)) _ _ _ ls (by omega) (by have h := he2; rw [lp, p_clr1, if_pos c_29] at h; exact h) (kp_clear hk1 (by omega)) hP hS (lv_sub hl [1, 2, 3, 0] rfl)
  exact lp_13 (pN r) 0 _ _ _ ls (by omega) (rfl) (kp.rf) hP hS (lv_sub hl [1, 2, 3, 0] rfl)
section CC
variable {p : Program} {l : Launch} {e : Env} {R : Room} {s : State} {m : MethodId} {args : Array Value} {below : List Frame} {meth : Method} {c : Code} {H H0 : Heap} {locs : List Loc} {cells slots : Nat} {Q : State → Prop}
variable {cc : ByteArray} {pc nL : Nat} {ls : Array Slot} {rest : List Value} {t : CT} {r : Rw} {x : Nat → Rw}
theorem cc_leastHoops (S : CallFix p m c cc nL s args lw_all RX0) (hK : cK t s) (hP : cX t r x H) (hS : va_S (cA t) H0 H locs) (hR : kRm R 11 cells slots) (hsz : ls.size = nL) (k : Nat) (n : Nat) (b : Nat) (hk : k < 8) (hV : pV b r) (hbn : b + n < 2 ^ 30) {i0 : Int32} (e0 : i0 = nI k) {i1 : Int32} (e1 : i1 = nI n) (hrest : (rest.map fun v => v.category).sum ≤ 8) (hdg : decode cc pc = .ok (.invokevirtual 266, 3)) (kk : ∀ (x1 : Nat → Rw) (H1 : Heap) (locs1 : List Loc), cJ (x) x1 → cX t (r) x1 H1 → va_S (cA t) H0 H1 locs1 → W p l e R s m args below meth c H1 locs1 cells slots Q (F0 m (pc + 3) ls (.int (oi (p_hoop r k n)) :: rest))) : W p l e R s m args below meth c H locs cells slots Q (F0 m pc ls (.int i1 :: .int i0 :: .ref (t.2.1 0) :: rest)) := by
  subst e0
  subst e1
  exact kk_Wi (W.runV (As := [.int (nI k), .int (nI n)]) (rest := rest) S (k0_leastHoops l t r x k n b hk hV hbn) (cwV 2 S.2.2.2.2 (lw_V q885 q887 qs24 q101 q888) rfl rfl rfl (by decide +kernel) ⟨hR.1, by have := hR.2.1; show 8 + (6 + 11) + 38 * 10 ≤ R.locals; omega⟩) ⟨c_blind, c_recv hK hP, c_pre hK hP⟩ rfl rfl hsz rfl (lv_room hrest) hdg ⟨hR.2.2.1, hR.2.2.2⟩) hS (fun _ h => h) (fun _ h => h) (fun H1 locs1 hB _ _ hS => by obtain ⟨x1, hj, hB⟩ := hB; exact kk x1 H1 locs1 hj hB hS)
theorem cc_greatestFrost (S : CallFix p m c cc nL s args lw_all RX0) (hK : cK t s) (hP : cX t r x H) (hS : va_S (cA t) H0 H locs) (hR : kRm R 12 cells slots) (hsz : ls.size = nL) (k : Nat) (n : Nat) (b : Nat) (hk : k < 6) (hV : pV b r) (hbn : b + n < 2 ^ 30) {i0 : Int32} (e0 : i0 = nI k) {i1 : Int32} (e1 : i1 = nI n) (hrest : (rest.map fun v => v.category).sum ≤ 8) (hdg : decode cc pc = .ok (.invokevirtual 269, 3)) (kk : ∀ (x1 : Nat → Rw) (H1 : Heap) (locs1 : List Loc), cJ (x) x1 → cX t (r) x1 H1 → va_S (cA t) H0 H1 locs1 → W p l e R s m args below meth c H1 locs1 cells slots Q (F0 m (pc + 3) ls (.int (oi (p_fros r k n)) :: rest))) : W p l e R s m args below meth c H locs cells slots Q (F0 m pc ls (.int i1 :: .int i0 :: .ref (t.2.1 0) :: rest)) := by
  subst e0
  subst e1
  exact kk_Wi (W.runV (As := [.int (nI k), .int (nI n)]) (rest := rest) S (k0_greatestFrost l t r x k n b hk hV hbn) (cwV 2 S.2.2.2.2 (lw_V q893 q895 qs25 q101 q896) rfl rfl rfl (by decide +kernel) ⟨hR.1, by have := hR.2.1; show 8 + (6 + 11) + 38 * 11 ≤ R.locals; omega⟩) ⟨c_blind, c_recv hK hP, c_pre hK hP⟩ rfl rfl hsz rfl (lv_room hrest) hdg ⟨hR.2.2.1, hR.2.2.2⟩) hS (fun _ h => h) (fun _ h => h) (fun H1 locs1 hB _ _ hS => by obtain ⟨x1, hj, hB⟩ := hB; exact kk x1 H1 locs1 hj hB hS)
theorem cc_clapsWithout (S : CallFix p m c cc nL s args lw_all RX0) (hK : cK t s) (hP : cX t r x H) (hS : va_S (cA t) H0 H locs) (hR : kRm R 11 cells slots) (hsz : ls.size = nL) (a : Nat) (n : Nat) (b : Nat) (ha : a < 2 ^ 31) (hV : pV b r) (hbn : b + n < 2 ^ 30) {i0 : Int32} (e0 : i0 = nI a) {i1 : Int32} (e1 : i1 = nI n) (hrest : (rest.map fun v => v.category).sum ≤ 8) (hdg : decode cc pc = .ok (.invokevirtual 275, 3)) (kk : ∀ (x1 : Nat → Rw) (H1 : Heap) (locs1 : List Loc), cJ (x) x1 → cX t (r) x1 H1 → va_S (cA t) H0 H1 locs1 → W p l e R s m args below meth c H1 locs1 cells slots Q (F0 m (pc + 3) ls (.int (p_goes n (p_clrs r a) 3) :: rest))) : W p l e R s m args below meth c H locs cells slots Q (F0 m pc ls (.int i1 :: .int i0 :: .ref (t.2.1 0) :: rest)) := by
  subst e0
  subst e1
  exact kk_Wi (CallRunX.run (W.runX (As := [.int (nI a), .int (nI n)]) (rest := rest) (maxL := 5) S (k0_clapsWithout l t r x a n b ha hV hbn).x rfl rfl hR.1 (by have := hR.2.1; show 8 + (5 + 11) + 38 * 10 ≤ R.locals; omega) (pay_in S.2.2.2.2 (lw_methW q909)) (fun U hW => LocX.codeW (pay_in S.2.2.2.2 (lw_methW q909) _ List.mem_cons_self #[] U hW)) (S.2.2.2.2 _ q101) ⟨by decide, by decide⟩ (show (parseMethodDescriptor yX0_clapsWithout.desc).map (fun d => d.parameters.length) = some 2 from by decide +kernel) (S.2.2.2.2 _ q906) (S.2.2.2.2 _ q908) (S.2.2.2.2 _ qs27) ⟨c_blind, c_recv hK hP, c_pre hK hP⟩ rfl hsz rfl (lv_room hrest) hdg ⟨hR.2.2.1, hR.2.2.2⟩) (fun _ _ _ h => ⟨_, h.1⟩)) hS (fun _ h => h) (fun _ h => h) (fun H1 locs1 hB _ _ hS => by obtain ⟨x1, hj, hB⟩ := hB; exact kk x1 H1 locs1 hj hB hS)
end CC
set_option maxHeartbeats 4000000 in
set_option maxRecDepth 100000 in
theorem k0_hoopsFor (l : Launch) (t : CT) (r : Rw) (x : Nat → Rw) (a : Int32) (n : Int32) (b : Nat) (hV : pV b r) (hb : b ≤ 99999) : Met l yX0_hoopsFor (ws_ yX0_hoopsFor cX0_hoopsFor 3 (some .int)) (rmF 11) (va_Pc [.ref (t.2.1 0), .int a, .int n] (fun U => cK t U ∧ cX t r x U.heap)) (kW (some (.int ((o_hoopsFor r a n).1))) (fun H => ∃ x1, cJ (fx x (o_hoopsFor r a n).2.2) x1 ∧ cX t ((o_hoopsFor r a n).2.1) x1 H) (cA t)) 0 0 (cA t) := by
  refine kk_start (by decide) (Nat.le_of_ble_eq_true rfl) ?_
  intro p e s m below meth c S hr hlk hin hB ls hl
  obtain ⟨hK, hP⟩ := hB
  have hx := S.1
  have hb := S.2.1
  have hown : s.vm.findClass RX0 = some m.cls := S.2.2.2.1
  have hts := S.2.2.2.2
  have hS : va_S (cA t) s.heap s.heap [] := va_S.rf
  have hl : lv_has ls 3 [(0, .ref (t.2.1 0)), (1, .int (a)), (2, .int (n))] := hl
  have hn := hV.n.1
  have hn8 := hV.n.2
  refine lv_aload_n hx hb dX0_hoopsFor_0 rfl (lv_at hl 0 rfl) ?_
  refine lv_iload_n hx hb dX0_hoopsFor_1 rfl (lv_at hl 1 rfl) ?_
  refine cc_isCask S hK hP (rm_ok (Nat.le_of_ble_eq_true rfl)) hl.1 (b) hV (Nat.le_of_ble_eq_true rfl) dX0_hoopsFor_2 ?_
  refine kb_ifeq (tgt := 31) S dX0_hoopsFor_5 (by decide) (fun c_5 => ?_) (fun c_5 => ?_)
  · skip
    refine lv_aload_n hx hb dX0_hoopsFor_31 rfl (lv_at hl 0 rfl) ?_
    refine lv_iconst (v := 0) hx hb dX0_hoopsFor_32 (by decide) ?_
    refine cc_finding S hK hP hS (rm_ok (Nat.le_of_ble_eq_true rfl)) hl.1 (0) (by omega) rfl (Nat.le_of_ble_eq_true rfl) dX0_hoopsFor_33 (fun H locs hP hS => ?_)
    have ho : o_hoopsFor r a n = (fnd 0, r, some 0) := by first | (simp only [o_hoopsFor, c_5, reduceIte, and_self, oF, oK]; done) | (simp [o_hoopsFor, oF, oK, fnd, c_5]; done) | (unfold o_hoopsFor oF oK; grind)
    exact kk_iretW S hr hlk hS (by rw [ho]; exact ⟨_, ((cJ.rf _)).fnd 0, hP⟩) (by rw [ho]) dX0_hoopsFor_36
  · skip
    obtain ⟨a_, ha_, rfl⟩ := nat_of_lt (n := pN r) (hn) (by omega) c_5
    have hcl_a_ := nI_clamp (n := a_) (by omega)
    refine lv_iload_n hx hb dX0_hoopsFor_8 rfl (lv_at hl 2 rfl) ?_
    refine lv_iconst (v := 0) hx hb dX0_hoopsFor_9 (by decide) ?_
    refine lv_bipush (v := 20) hx hb dX0_hoopsFor_10 (by decide) ?_
    refine cc_in S (rm_ok (Nat.le_of_ble_eq_true rfl)) hl.1 (Nat.le_of_ble_eq_true rfl) dX0_hoopsFor_12 ?_
    refine kb_ifeq (tgt := 31) S dX0_hoopsFor_15 (by decide) (fun c_15 => ?_) (fun c_15 => ?_)
    · skip
      refine lv_aload_n hx hb dX0_hoopsFor_31 rfl (lv_at hl 0 rfl) ?_
      refine lv_iconst (v := 0) hx hb dX0_hoopsFor_32 (by decide) ?_
      refine cc_finding S hK hP hS (rm_ok (Nat.le_of_ble_eq_true rfl)) hl.1 (0) (by omega) rfl (Nat.le_of_ble_eq_true rfl) dX0_hoopsFor_33 (fun H locs hP hS => ?_)
      have ho : o_hoopsFor r (nI a_) n = (fnd 0, r, some 0) := by first | (simp only [o_hoopsFor, c_5, c_15, hcl_a_, reduceIte, and_self, oF, oK]; done) | (simp [o_hoopsFor, oF, oK, fnd, c_5, c_15, hcl_a_]; done) | (unfold o_hoopsFor oF oK; grind)
      exact kk_iretW S hr hlk hS (by rw [ho]; exact ⟨_, ((cJ.rf _)).fnd 0, hP⟩) (by rw [ho]) dX0_hoopsFor_36
    · skip
      obtain ⟨n_, hn_, rfl⟩ := nat_of_le (n := 20) (rfl) (by omega) c_15
      have hcl_n_ := nI_clamp (n := n_) (by omega)
      refine lv_aload_n hx hb dX0_hoopsFor_18 rfl (lv_at hl 0 rfl) ?_
      refine lv_aload_n hx hb dX0_hoopsFor_19 rfl (lv_at hl 0 rfl) ?_
      refine lv_iload_n hx hb dX0_hoopsFor_20 rfl (lv_at hl 1 rfl) ?_
      refine lv_iload_n hx hb dX0_hoopsFor_21 rfl (lv_at hl 2 rfl) ?_
      refine cc_leastHoops S hK hP hS (rm_ok (Nat.le_of_ble_eq_true rfl)) hl.1 (a_) (n_) (b) (by omega) hV (by omega) rfl rfl (Nat.le_of_ble_eq_true rfl) dX0_hoopsFor_22 (fun x_5 H locs hj_5 hP hS => ?_)
      refine cc_orNoneO S hK hP hS (rm_ok (Nat.le_of_ble_eq_true rfl)) hl.1 (fun i hi => Nat.lt_trans (ffs_lt0 hi) (by decide)) (Nat.le_of_ble_eq_true rfl) dX0_hoopsFor_25 (fun H locs hP hS => ?_)
      refine lv_goto (tgt := 36) hx hb dX0_hoopsFor_28 (by decide) ?_
      have ho : o_hoopsFor r (nI a_) (nI n_) = (oU (p_hoop r a_ n_) r) := by first | (simp only [o_hoopsFor, c_5, c_15, hcl_a_, hcl_n_, reduceIte, and_self, oF, oK]; done) | (simp [o_hoopsFor, oF, oK, fnd, c_5, c_15, hcl_a_, hcl_n_]; done) | (unfold o_hoopsFor oF oK; grind)
      exact kk_iretW S hr hlk hS (by rw [ho, oU_r]; exact ⟨_, (((cJ.rf _)).tr hj_5).fx (oU (p_hoop r a_ n_) r).2.2, hP⟩) (by rw [ho]) dX0_hoopsFor_36
theorem dn_lt {p : Nat → Bool} : ∀ {j i : Nat}, dn p j = some i → i < j
  | 0, _, h => by cases h
  | j + 1, i, h => by
    rw [dn] at h
    split at h
    · cases h; omega
    · have := dn_lt h; omega
set_option maxHeartbeats 4000000 in
set_option maxRecDepth 100000 in
theorem k0_frostFor (l : Launch) (t : CT) (r : Rw) (x : Nat → Rw) (a : Int32) (n : Int32) (b : Nat) (hV : pV b r) (hb : b ≤ 99999) : Met l yX0_frostFor (ws_ yX0_frostFor cX0_frostFor 3 (some .int)) (rmF 12) (va_Pc [.ref (t.2.1 0), .int a, .int n] (fun U => cK t U ∧ cX t r x U.heap)) (kW (some (.int ((o_frostFor r a n).1))) (fun H => ∃ x1, cJ (fx x (o_frostFor r a n).2.2) x1 ∧ cX t ((o_frostFor r a n).2.1) x1 H) (cA t)) 0 0 (cA t) := by
  refine kk_start (by decide) (Nat.le_of_ble_eq_true rfl) ?_
  intro p e s m below meth c S hr hlk hin hB ls hl
  obtain ⟨hK, hP⟩ := hB
  have hx := S.1
  have hb := S.2.1
  have hown : s.vm.findClass RX0 = some m.cls := S.2.2.2.1
  have hts := S.2.2.2.2
  have hS : va_S (cA t) s.heap s.heap [] := va_S.rf
  have hl : lv_has ls 3 [(0, .ref (t.2.1 0)), (1, .int (a)), (2, .int (n))] := hl
  have hn := hV.n.1
  have hn8 := hV.n.2
  refine lv_iload_n hx hb dX0_frostFor_0 rfl (lv_at hl 1 rfl) ?_
  refine cc_isCellar S (rm_ok (Nat.le_of_ble_eq_true rfl)) hl.1 (Nat.le_of_ble_eq_true rfl) dX0_frostFor_1 ?_
  refine kb_ifeq (tgt := 30) S dX0_frostFor_4 (by decide) (fun c_4 => ?_) (fun c_4 => ?_)
  · skip
    refine lv_aload_n hx hb dX0_frostFor_30 rfl (lv_at hl 0 rfl) ?_
    refine lv_iconst (v := 0) hx hb dX0_frostFor_31 (by decide) ?_
    refine cc_finding S hK hP hS (rm_ok (Nat.le_of_ble_eq_true rfl)) hl.1 (0) (by omega) rfl (Nat.le_of_ble_eq_true rfl) dX0_frostFor_32 (fun H locs hP hS => ?_)
    have ho : o_frostFor r a n = (fnd 0, r, some 0) := by first | (simp only [o_frostFor, c_4, reduceIte, and_self, oF, oK]; done) | (simp [o_frostFor, oF, oK, fnd, c_4]; done) | (unfold o_frostFor oF oK; grind)
    exact kk_iretW S hr hlk hS (by rw [ho]; exact ⟨_, ((cJ.rf _)).fnd 0, hP⟩) (by rw [ho]) dX0_frostFor_35
  · skip
    obtain ⟨a_, ha_, rfl⟩ := nat_of_lt (n := 6) (rfl) (by omega) c_4
    have hcl_a_ := nI_clamp (n := a_) (by omega)
    refine lv_iload_n hx hb dX0_frostFor_7 rfl (lv_at hl 2 rfl) ?_
    refine lv_iconst (v := 0) hx hb dX0_frostFor_8 (by decide) ?_
    refine lv_bipush (v := 40) hx hb dX0_frostFor_9 (by decide) ?_
    refine cc_in S (rm_ok (Nat.le_of_ble_eq_true rfl)) hl.1 (Nat.le_of_ble_eq_true rfl) dX0_frostFor_11 ?_
    refine kb_ifeq (tgt := 30) S dX0_frostFor_14 (by decide) (fun c_14 => ?_) (fun c_14 => ?_)
    · skip
      refine lv_aload_n hx hb dX0_frostFor_30 rfl (lv_at hl 0 rfl) ?_
      refine lv_iconst (v := 0) hx hb dX0_frostFor_31 (by decide) ?_
      refine cc_finding S hK hP hS (rm_ok (Nat.le_of_ble_eq_true rfl)) hl.1 (0) (by omega) rfl (Nat.le_of_ble_eq_true rfl) dX0_frostFor_32 (fun H locs hP hS => ?_)
      have ho : o_frostFor r (nI a_) n = (fnd 0, r, some 0) := by first | (simp only [o_frostFor, c_4, c_14, hcl_a_, reduceIte, and_self, oF, oK]; done) | (simp [o_frostFor, oF, oK, fnd, c_4, c_14, hcl_a_]; done) | (unfold o_frostFor oF oK; grind)
      exact kk_iretW S hr hlk hS (by rw [ho]; exact ⟨_, ((cJ.rf _)).fnd 0, hP⟩) (by rw [ho]) dX0_frostFor_35
    · skip
      obtain ⟨n_, hn_, rfl⟩ := nat_of_le (n := 40) (rfl) (by omega) c_14
      have hcl_n_ := nI_clamp (n := n_) (by omega)
      refine lv_aload_n hx hb dX0_frostFor_17 rfl (lv_at hl 0 rfl) ?_
      refine lv_aload_n hx hb dX0_frostFor_18 rfl (lv_at hl 0 rfl) ?_
      refine lv_iload_n hx hb dX0_frostFor_19 rfl (lv_at hl 1 rfl) ?_
      refine lv_iload_n hx hb dX0_frostFor_20 rfl (lv_at hl 2 rfl) ?_
      refine cc_greatestFrost S hK hP hS (rm_ok (Nat.le_of_ble_eq_true rfl)) hl.1 (a_) (n_) (b) (by omega) hV (by omega) rfl rfl (Nat.le_of_ble_eq_true rfl) dX0_frostFor_21 (fun x_5 H locs hj_5 hP hS => ?_)
      refine cc_orNoneO S hK hP hS (rm_ok (Nat.le_of_ble_eq_true rfl)) hl.1 (fun i hi => Nat.lt_trans (dn_lt hi) (by decide)) (Nat.le_of_ble_eq_true rfl) dX0_frostFor_24 (fun H locs hP hS => ?_)
      refine lv_goto (tgt := 35) hx hb dX0_frostFor_27 (by decide) ?_
      have ho : o_frostFor r (nI a_) (nI n_) = (oU (p_fros r a_ n_) r) := by first | (simp only [o_frostFor, c_4, c_14, hcl_a_, hcl_n_, reduceIte, and_self, oF, oK]; done) | (simp [o_frostFor, oF, oK, fnd, c_4, c_14, hcl_a_, hcl_n_]; done) | (unfold o_frostFor oF oK; grind)
      exact kk_iretW S hr hlk hS (by rw [ho, oU_r]; exact ⟨_, (((cJ.rf _)).tr hj_5).fx (oU (p_fros r a_ n_) r).2.2, hP⟩) (by rw [ho]) dX0_frostFor_35
set_option maxHeartbeats 4000000 in
set_option maxRecDepth 100000 in
theorem k0_fewestEmptied (l : Launch) (t : CT) (r : Rw) (x : Nat → Rw) (n : Nat) (b : Nat) (hV : pV b r) (hbn : b + n < 2 ^ 30) : Met l yX0_fewestEmptied (ws_ yX0_fewestEmptied cX0_fewestEmptied 5 (some .int)) (rmF 11) (va_Pc [.ref (t.2.1 0), .int (nI n)] (fun U => cK t U ∧ cX t r x U.heap)) (kW (some (.int (oi (p_empt r n)))) (fun H => ∃ x1, cJ (x) x1 ∧ cX t (r) x1 H) (cA t)) 0 0 (cA t) := by
  refine kk_start (by decide) (Nat.le_of_ble_eq_true rfl) ?_
  intro p e s m below meth c S hr hlk hin hB ls hl
  obtain ⟨hK, hP⟩ := hB
  have hx := S.1
  have hb := S.2.1
  have hown : s.vm.findClass RX0 = some m.cls := S.2.2.2.1
  have hts := S.2.2.2.2
  have hS : va_S (cA t) s.heap s.heap [] := va_S.rf
  have hl : lv_has ls 5 [(0, .ref (t.2.1 0)), (1, .int ((nI n)))] := hl
  have hn := hV.n.1
  have hn8 := hV.n.2
  have hp2 := p2_le hn8
  have hp1 := p2_pos (pN r)
  refine lv_iconst (v := (-1)) hx hb dX0_fewestEmptied_0 (by decide) ?_
  refine lv_istore_n (lv' := [(2, .int ((-1))), (0, .ref (t.2.1 0)), (1, .int ((nI n)))]) hx hb dX0_fewestEmptied_1 rfl hl (by decide) rfl (fun ls hl => ?_)
  refine lv_iconst (v := 0) hx hb dX0_fewestEmptied_2 (by decide) ?_
  refine lv_istore_n (lv' := [(3, .int (0)), (2, .int ((-1))), (0, .ref (t.2.1 0)), (1, .int ((nI n)))]) hx hb dX0_fewestEmptied_3 rfl hl (by decide) rfl (fun ls hl => ?_)
  have lp_4 : ∀ (j a : Nat) (bb : Option Nat) (x1 : Nat → Rw) (H : Heap) (locs : List Loc) (ls : Array Slot), a + j = 2 ^ pN r → (lp (p_few (p_empP r n)) j a bb = p_empt r n) → (∀ i, bb = some i → i < 256) → (cJ x x1) → cX t (r) (x1) H → va_S (cA t) s.heap H locs → lv_has ls 5 [(0, .ref (t.2.1 0)), (1, .int ((nI n))), (2, .int ((oi bb))), (3, .int ((nI a)))] → W p l e (rmF 11) s m ([.ref (t.2.1 0), .int (nI n)] : List Value).toArray below meth c H locs 0 0 (MQ below (kW (some (.int (oi (p_empt r n)))) (fun H => ∃ x1, cJ (x) x1 ∧ cX t (r) x1 H) (cA t)) ([.ref (t.2.1 0), .int (nI n)] : List Value).toArray s 0 0 (cA t)) (F0 m 4 ls []) := by
    intro j
    induction j with
    | zero =>
      intro a bb x1 H locs ls hkj he hb8 hx1 hP hS hl
      refine lv_iload_n hx hb dX0_fewestEmptied_4 rfl (lv_at hl 3 rfl) ?_
      refine lv_aload_n hx hb dX0_fewestEmptied_5 rfl (lv_at hl 0 rfl) ?_
      refine cg_d S hK hP dX0_fewestEmptied_6 ?_
      refine d0_all S hK hP (rm_ok (Nat.le_of_ble_eq_true rfl)) hl.1 (b) hV (Nat.le_of_ble_eq_true rfl) dX0_fewestEmptied_9 ?_
      refine kb_gt_n (tgt := 71) (a := a) (b := (2 ^ pN r - 1)) S rfl rfl (by omega) (by omega) dX0_fewestEmptied_12 (by decide) (fun c_12 => ?_) (fun c_12 => ?_)
      · skip
        refine lv_iload_n hx hb dX0_fewestEmptied_71 rfl (lv_at hl 2 rfl) ?_
        exact kk_iretW S hr hlk hS (⟨_, hx1, hP⟩) (by rw [← he]; rfl) dX0_fewestEmptied_72
      · exact absurd c_12 (by omega)
    | succ j ih =>
      intro a bb x1 H locs ls hkj he hb8 hx1 hP hS hl
      have ih_4 := ih
      refine lv_iload_n hx hb dX0_fewestEmptied_4 rfl (lv_at hl 3 rfl) ?_
      refine lv_aload_n hx hb dX0_fewestEmptied_5 rfl (lv_at hl 0 rfl) ?_
      refine cg_d S hK hP dX0_fewestEmptied_6 ?_
      refine d0_all S hK hP (rm_ok (Nat.le_of_ble_eq_true rfl)) hl.1 (b) hV (Nat.le_of_ble_eq_true rfl) dX0_fewestEmptied_9 ?_
      refine kb_gt_n (tgt := 71) (a := a) (b := (2 ^ pN r - 1)) S rfl rfl (by omega) (by omega) dX0_fewestEmptied_12 (by decide) (fun c_12 => ?_) (fun c_12 => ?_)
      · exact absurd c_12 (by omega)
      · skip
        refine lv_iload_n hx hb dX0_fewestEmptied_15 rfl (lv_at hl 2 rfl) ?_
        refine lv_iconst (v := (-1)) hx hb dX0_fewestEmptied_16 (by decide) ?_
        refine kb_eq_o (tgt := 31) S dX0_fewestEmptied_17 (by decide) (fun c_17 => ?_) (fun c_17 => ?_) (fun i hi => Nat.lt_trans (hb8 i hi) (by decide))
        · skip
          subst c_17
          refine lv_iconst (v := 1) hx hb dX0_fewestEmptied_31 (by decide) ?_
          refine lv_goto (tgt := 36) hx hb dX0_fewestEmptied_32 (by decide) ?_
          refine lv_istore (lv' := [(4, .int (1)), (0, .ref (t.2.1 0)), (1, .int ((nI n))), (2, .int ((oi none))), (3, .int ((nI a)))]) hx hb dX0_fewestEmptied_36 hl (by decide) rfl (fun ls hl => ?_)
          refine lv_iload hx hb dX0_fewestEmptied_38 (lv_at hl 0 rfl) ?_
          refine kb_eq0_n (tgt := 63) (a := 1) S rfl (by omega) dX0_fewestEmptied_40 (by decide) (fun c_40 => ?_) (fun c_40 => ?_)
          · exact absurd c_40 (by first | decide | omega)
          · skip
            refine lv_aload_n hx hb dX0_fewestEmptied_43 rfl (lv_at hl 1 rfl) ?_
            refine lv_iload_n hx hb dX0_fewestEmptied_44 rfl (lv_at hl 4 rfl) ?_
            refine lv_iload_n hx hb dX0_fewestEmptied_45 rfl (lv_at hl 2 rfl) ?_
            refine cc_clapsWithout S hK hP hS (rm_ok (Nat.le_of_ble_eq_true rfl)) hl.1 (a) (n) (b) (by omega) hV (by omega) rfl rfl (Nat.le_of_ble_eq_true rfl) dX0_fewestEmptied_46 (fun x_3 H locs hj_3 hP hS => ?_)
            refine lv_aload_n hx hb dX0_fewestEmptied_49 rfl (lv_at hl 1 rfl) ?_
            refine cg_d S hK hP dX0_fewestEmptied_50 ?_
            refine cd_claps S hK hP dX0_fewestEmptied_53 ?_
            refine lv_icmp_ne (tgt := 63) hx hb dX0_fewestEmptied_56 (by decide) (fun c_56 => ?_) (fun c_56 => ?_)
            · skip
              refine lv_iload_n hx hb dX0_fewestEmptied_63 rfl (lv_at hl 3 rfl) ?_
              refine lv_istore_n (lv' := [(2, .int ((oi none))), (4, .int (1)), (0, .ref (t.2.1 0)), (1, .int ((nI n))), (3, .int ((nI a)))]) hx hb dX0_fewestEmptied_64 rfl hl (by decide) rfl (fun ls hl => ?_)
              refine lv_iinc (v := (nI (a + 1))) (lv' := [(3, .int ((nI (a + 1)))), (2, .int ((oi none))), (4, .int (1)), (0, .ref (t.2.1 0)), (1, .int ((nI n)))]) hx hb dX0_fewestEmptied_65 hl (k := 4) rfl (nn_1 rfl) (by decide) rfl (fun ls hl => ?_)
              refine lv_goto (tgt := 4) hx hb dX0_fewestEmptied_68 (by decide) ?_
              exact ih_4 ((a + 1)) none _ _ _ ls (by omega) (by have h := he; rw [lp, p_few] at h; rw [if_pos (show p_fewer a none = true from rfl)] at h; rw [if_neg (show ¬ p_empP r n a = true from fun z => c_56 (of_decide_eq_true z))] at h; exact h) (hb8) ((hx1).tr hj_3) hP hS (lv_sub hl [3, 4, 1, 0] rfl)
            · skip
              refine lv_iload_n hx hb dX0_fewestEmptied_59 rfl (lv_at hl 4 rfl) ?_
              refine lv_goto (tgt := 64) hx hb dX0_fewestEmptied_60 (by decide) ?_
              refine lv_istore_n (lv' := [(2, .int ((nI a))), (4, .int (1)), (0, .ref (t.2.1 0)), (1, .int ((nI n))), (3, .int ((nI a)))]) hx hb dX0_fewestEmptied_64 rfl hl (by decide) rfl (fun ls hl => ?_)
              refine lv_iinc (v := (nI (a + 1))) (lv' := [(3, .int ((nI (a + 1)))), (2, .int ((nI a))), (4, .int (1)), (0, .ref (t.2.1 0)), (1, .int ((nI n)))]) hx hb dX0_fewestEmptied_65 hl (k := 4) rfl (nn_1 rfl) (by decide) rfl (fun ls hl => ?_)
              refine lv_goto (tgt := 4) hx hb dX0_fewestEmptied_68 (by decide) ?_
              exact ih_4 ((a + 1)) (some (a)) _ _ _ ls (by omega) (by have h := he; rw [lp, p_few] at h; rw [if_pos (show p_fewer a none = true from rfl)] at h; rw [if_pos (show p_empP r n a = true from decide_eq_true c_56)] at h; exact h) (fun i hi => by cases hi; omega) ((hx1).tr hj_3) hP hS (lv_sub hl [3, 4, 1, 0] rfl)
        · skip
          obtain ⟨bb_17, rfl⟩ := c_17
          have hbb_17 := hb8 _ rfl
          refine lv_iload_n hx hb dX0_fewestEmptied_20 rfl (lv_at hl 3 rfl) ?_
          refine cc_ones S (rm_ok (Nat.le_of_ble_eq_true rfl)) hl.1 (a) (by omega) rfl (Nat.le_of_ble_eq_true rfl) dX0_fewestEmptied_21 ?_
          refine lv_iload_n hx hb dX0_fewestEmptied_24 rfl (lv_at hl 2 rfl) ?_
          refine cc_ones S (rm_ok (Nat.le_of_ble_eq_true rfl)) hl.1 (bb_17) (by omega) (oi_some _) (Nat.le_of_ble_eq_true rfl) dX0_fewestEmptied_25 ?_
          refine kb_ge_n (tgt := 35) (a := (p_many a)) (b := (p_many bb_17)) S rfl rfl (Nat.lt_of_le_of_lt (p_many_le _) (by omega)) (Nat.lt_of_le_of_lt (p_many_le _) (by omega)) dX0_fewestEmptied_28 (by decide) (fun c_28 => ?_) (fun c_28 => ?_)
          · skip
            refine lv_iconst (v := 0) hx hb dX0_fewestEmptied_35 (by decide) ?_
            refine lv_istore (lv' := [(4, .int (0)), (0, .ref (t.2.1 0)), (1, .int ((nI n))), (2, .int ((oi (some bb_17)))), (3, .int ((nI a)))]) hx hb dX0_fewestEmptied_36 hl (by decide) rfl (fun ls hl => ?_)
            refine lv_iload hx hb dX0_fewestEmptied_38 (lv_at hl 0 rfl) ?_
            refine kb_eq0_n (tgt := 63) (a := 0) S rfl (by omega) dX0_fewestEmptied_40 (by decide) (fun c_40 => ?_) (fun c_40 => ?_)
            · skip
              refine lv_iload_n hx hb dX0_fewestEmptied_63 rfl (lv_at hl 3 rfl) ?_
              refine kb_nat (y := nI (bb_17)) (oi_some _) ?_
              refine lv_istore_n (lv' := [(2, .int ((nI bb_17))), (4, .int (0)), (0, .ref (t.2.1 0)), (1, .int ((nI n))), (3, .int ((nI a)))]) hx hb dX0_fewestEmptied_64 rfl hl (by decide) rfl (fun ls hl => ?_)
              refine lv_iinc (v := (nI (a + 1))) (lv' := [(3, .int ((nI (a + 1)))), (2, .int ((nI bb_17))), (4, .int (0)), (0, .ref (t.2.1 0)), (1, .int ((nI n)))]) hx hb dX0_fewestEmptied_65 hl (k := 4) rfl (nn_1 rfl) (by decide) rfl (fun ls hl => ?_)
              refine lv_goto (tgt := 4) hx hb dX0_fewestEmptied_68 (by decide) ?_
              exact ih_4 ((a + 1)) (some (bb_17)) _ _ _ ls (by omega) (by have h := he; rw [lp, p_few] at h; rw [if_neg (show ¬ p_fewer a (some bb_17) = true from fun z => absurd (of_decide_eq_true z) (Nat.not_lt.mpr c_28))] at h; exact h) (hb8) (hx1) hP hS (lv_sub hl [3, 4, 1, 0] rfl)
            · exact absurd c_40 (by first | decide | omega)
          · skip
            refine lv_iconst (v := 1) hx hb dX0_fewestEmptied_31 (by decide) ?_
            refine lv_goto (tgt := 36) hx hb dX0_fewestEmptied_32 (by decide) ?_
            refine lv_istore (lv' := [(4, .int (1)), (0, .ref (t.2.1 0)), (1, .int ((nI n))), (2, .int ((oi (some bb_17)))), (3, .int ((nI a)))]) hx hb dX0_fewestEmptied_36 hl (by decide) rfl (fun ls hl => ?_)
            refine lv_iload hx hb dX0_fewestEmptied_38 (lv_at hl 0 rfl) ?_
            refine kb_eq0_n (tgt := 63) (a := 1) S rfl (by omega) dX0_fewestEmptied_40 (by decide) (fun c_40 => ?_) (fun c_40 => ?_)
            · exact absurd c_40 (by first | decide | omega)
            · skip
              refine lv_aload_n hx hb dX0_fewestEmptied_43 rfl (lv_at hl 1 rfl) ?_
              refine lv_iload_n hx hb dX0_fewestEmptied_44 rfl (lv_at hl 4 rfl) ?_
              refine lv_iload_n hx hb dX0_fewestEmptied_45 rfl (lv_at hl 2 rfl) ?_
              refine cc_clapsWithout S hK hP hS (rm_ok (Nat.le_of_ble_eq_true rfl)) hl.1 (a) (n) (b) (by omega) hV (by omega) rfl rfl (Nat.le_of_ble_eq_true rfl) dX0_fewestEmptied_46 (fun x_6 H locs hj_6 hP hS => ?_)
              refine lv_aload_n hx hb dX0_fewestEmptied_49 rfl (lv_at hl 1 rfl) ?_
              refine cg_d S hK hP dX0_fewestEmptied_50 ?_
              refine cd_claps S hK hP dX0_fewestEmptied_53 ?_
              refine lv_icmp_ne (tgt := 63) hx hb dX0_fewestEmptied_56 (by decide) (fun c_56 => ?_) (fun c_56 => ?_)
              · skip
                refine lv_iload_n hx hb dX0_fewestEmptied_63 rfl (lv_at hl 3 rfl) ?_
                refine kb_nat (y := nI (bb_17)) (oi_some _) ?_
                refine lv_istore_n (lv' := [(2, .int ((nI bb_17))), (4, .int (1)), (0, .ref (t.2.1 0)), (1, .int ((nI n))), (3, .int ((nI a)))]) hx hb dX0_fewestEmptied_64 rfl hl (by decide) rfl (fun ls hl => ?_)
                refine lv_iinc (v := (nI (a + 1))) (lv' := [(3, .int ((nI (a + 1)))), (2, .int ((nI bb_17))), (4, .int (1)), (0, .ref (t.2.1 0)), (1, .int ((nI n)))]) hx hb dX0_fewestEmptied_65 hl (k := 4) rfl (nn_1 rfl) (by decide) rfl (fun ls hl => ?_)
                refine lv_goto (tgt := 4) hx hb dX0_fewestEmptied_68 (by decide) ?_
                exact ih_4 ((a + 1)) (some (bb_17)) _ _ _ ls (by omega) (by have h := he; rw [lp, p_few] at h; rw [if_pos (show p_fewer a (some bb_17) = true from decide_eq_true c_28)] at h; rw [if_neg (show ¬ p_empP r n a = true from fun z => c_56 (of_decide_eq_true z))] at h; exact h) (hb8) ((hx1).tr hj_6) hP hS (lv_sub hl [3, 4, 1, 0] rfl)
              · skip
                refine lv_iload_n hx hb dX0_fewestEmptied_59 rfl (lv_at hl 4 rfl) ?_
                refine lv_goto (tgt := 64) hx hb dX0_fewestEmptied_60 (by decide) ?_
                refine lv_istore_n (lv' := [(2, .int ((nI a))), (4, .int (1)), (0, .ref (t.2.1 0)), (1, .int ((nI n))), (3, .int ((nI a)))]) hx hb dX0_fewestEmptied_64 rfl hl (by decide) rfl (fun ls hl => ?_)
                refine lv_iinc (v := (nI (a + 1))) (lv' := [(3, .int ((nI (a + 1)))), (2, .int ((nI a))), (4, .int (1)), (0, .ref (t.2.1 0)), (1, .int ((nI n)))]) hx hb dX0_fewestEmptied_65 hl (k := 4) rfl (nn_1 rfl) (by decide) rfl (fun ls hl => ?_)
                refine lv_goto (tgt := 4) hx hb dX0_fewestEmptied_68 (by decide) ?_
                exact ih_4 ((a + 1)) (some (a)) _ _ _ ls (by omega) (by have h := he; rw [lp, p_few] at h; rw [if_pos (show p_fewer a (some bb_17) = true from decide_eq_true c_28)] at h; rw [if_pos (show p_empP r n a = true from decide_eq_true c_56)] at h; exact h) (fun i hi => by cases hi; omega) ((hx1).tr hj_6) hP hS (lv_sub hl [3, 4, 1, 0] rfl)
  exact lp_4 (2 ^ pN r) 0 none _ _ _ ls (by omega) (rfl) (fun _ h => by cases h) ((cJ.rf _)) hP hS (lv_sub hl [2, 3, 1, 0] rfl)
set_option maxHeartbeats 4000000 in
set_option maxRecDepth 100000 in
theorem k0_fewestBlended (l : Launch) (t : CT) (r : Rw) (x : Nat → Rw) (v : Int32) (b : Nat) (hV : pV b r) : Met l yX0_fewestBlended (ws_ yX0_fewestBlended cX0_fewestBlended 5 (some .int)) (rmF 7) (va_Pc [.ref (t.2.1 0), .int v] (fun U => cK t U ∧ cX t r x U.heap)) (kR (some (.int (oi (p_order r v))))) 0 0 (fun _ => False) := by
  refine kk_start (by decide) (Nat.le_of_ble_eq_true rfl) ?_
  intro p e s m below meth c S hr hlk hin hB ls hl
  obtain ⟨hK, hP⟩ := hB
  have hx := S.1
  have hb := S.2.1
  have hown : s.vm.findClass RX0 = some m.cls := S.2.2.2.1
  have hts := S.2.2.2.2
  have hl : lv_has ls 5 [(0, .ref (t.2.1 0)), (1, .int (v))] := hl
  have hn := hV.n.1
  have hn8 := hV.n.2
  have hp2 := p2_le hn8
  have hp1 := p2_pos (pN r)
  refine lv_iconst (v := (-1)) hx hb dX0_fewestBlended_0 (by decide) ?_
  refine lv_istore_n (lv' := [(2, .int ((-1))), (0, .ref (t.2.1 0)), (1, .int (v))]) hx hb dX0_fewestBlended_1 rfl hl (by decide) rfl (fun ls hl => ?_)
  refine lv_iconst (v := 0) hx hb dX0_fewestBlended_2 (by decide) ?_
  refine lv_istore_n (lv' := [(3, .int (0)), (2, .int ((-1))), (0, .ref (t.2.1 0)), (1, .int (v))]) hx hb dX0_fewestBlended_3 rfl hl (by decide) rfl (fun ls hl => ?_)
  have lp_4 : ∀ (j a : Nat) (bb : Option Nat) (ls : Array Slot), a + j = 2 ^ pN r → (lp (p_few (fun a => decide (p_blend r a = v))) j a bb = p_order r v) → (∀ i, bb = some i → i < 256) → lv_has ls 5 [(0, .ref (t.2.1 0)), (1, .int (v)), (2, .int ((oi bb))), (3, .int ((nI a)))] → W p l e (rmF 7) s m ([.ref (t.2.1 0), .int v] : List Value).toArray below meth c s.heap [] 0 0 (MQ below (kR (some (.int (oi (p_order r v))))) ([.ref (t.2.1 0), .int v] : List Value).toArray s 0 0 (fun _ => False)) (F0 m 4 ls []) := by
    intro j
    induction j with
    | zero =>
      intro a bb ls hkj he hb8 hl
      refine lv_iload_n hx hb dX0_fewestBlended_4 rfl (lv_at hl 3 rfl) ?_
      refine lv_aload_n hx hb dX0_fewestBlended_5 rfl (lv_at hl 0 rfl) ?_
      refine cg_d S hK hP dX0_fewestBlended_6 ?_
      refine d0_all S hK hP (rm_ok (Nat.le_of_ble_eq_true rfl)) hl.1 (b) hV (Nat.le_of_ble_eq_true rfl) dX0_fewestBlended_9 ?_
      refine kb_gt_n (tgt := 64) (a := a) (b := (2 ^ pN r - 1)) S rfl rfl (by omega) (by omega) dX0_fewestBlended_12 (by decide) (fun c_12 => ?_) (fun c_12 => ?_)
      · skip
        refine lv_iload_n hx hb dX0_fewestBlended_64 rfl (lv_at hl 2 rfl) ?_
        exact kk_iretR S hr hlk rfl rfl (by rw [← he]; rfl) dX0_fewestBlended_65
      · exact absurd c_12 (by omega)
    | succ j ih =>
      intro a bb ls hkj he hb8 hl
      have ih_4 := ih
      refine lv_iload_n hx hb dX0_fewestBlended_4 rfl (lv_at hl 3 rfl) ?_
      refine lv_aload_n hx hb dX0_fewestBlended_5 rfl (lv_at hl 0 rfl) ?_
      refine cg_d S hK hP dX0_fewestBlended_6 ?_
      refine d0_all S hK hP (rm_ok (Nat.le_of_ble_eq_true rfl)) hl.1 (b) hV (Nat.le_of_ble_eq_true rfl) dX0_fewestBlended_9 ?_
      refine kb_gt_n (tgt := 64) (a := a) (b := (2 ^ pN r - 1)) S rfl rfl (by omega) (by omega) dX0_fewestBlended_12 (by decide) (fun c_12 => ?_) (fun c_12 => ?_)
      · exact absurd c_12 (by omega)
      · skip
        refine lv_iload_n hx hb dX0_fewestBlended_15 rfl (lv_at hl 2 rfl) ?_
        refine lv_iconst (v := (-1)) hx hb dX0_fewestBlended_16 (by decide) ?_
        refine kb_eq_o (tgt := 31) S dX0_fewestBlended_17 (by decide) (fun c_17 => ?_) (fun c_17 => ?_) (fun i hi => Nat.lt_trans (hb8 i hi) (by decide))
        · skip
          subst c_17
          refine lv_iconst (v := 1) hx hb dX0_fewestBlended_31 (by decide) ?_
          refine lv_goto (tgt := 36) hx hb dX0_fewestBlended_32 (by decide) ?_
          refine lv_istore (lv' := [(4, .int (1)), (0, .ref (t.2.1 0)), (1, .int (v)), (2, .int ((oi none))), (3, .int ((nI a)))]) hx hb dX0_fewestBlended_36 hl (by decide) rfl (fun ls hl => ?_)
          refine lv_iload hx hb dX0_fewestBlended_38 (lv_at hl 0 rfl) ?_
          refine kb_eq0_n (tgt := 56) (a := 1) S rfl (by omega) dX0_fewestBlended_40 (by decide) (fun c_40 => ?_) (fun c_40 => ?_)
          · exact absurd c_40 (by first | decide | omega)
          · skip
            refine lv_aload_n hx hb dX0_fewestBlended_43 rfl (lv_at hl 1 rfl) ?_
            refine lv_iload_n hx hb dX0_fewestBlended_44 rfl (lv_at hl 4 rfl) ?_
            refine cc_blendOf S hK hP (rm_ok (Nat.le_of_ble_eq_true rfl)) hl.1 (a) (b) hV (by omega) rfl (Nat.le_of_ble_eq_true rfl) dX0_fewestBlended_45 ?_
            refine lv_iload_n hx hb dX0_fewestBlended_48 rfl (lv_at hl 2 rfl) ?_
            refine lv_icmp_ne (tgt := 56) hx hb dX0_fewestBlended_49 (by decide) (fun c_49 => ?_) (fun c_49 => ?_)
            · skip
              refine lv_iload_n hx hb dX0_fewestBlended_56 rfl (lv_at hl 3 rfl) ?_
              refine lv_istore_n (lv' := [(2, .int ((oi none))), (4, .int (1)), (0, .ref (t.2.1 0)), (1, .int (v)), (3, .int ((nI a)))]) hx hb dX0_fewestBlended_57 rfl hl (by decide) rfl (fun ls hl => ?_)
              refine lv_iinc (v := (nI (a + 1))) (lv' := [(3, .int ((nI (a + 1)))), (2, .int ((oi none))), (4, .int (1)), (0, .ref (t.2.1 0)), (1, .int (v))]) hx hb dX0_fewestBlended_58 hl (k := 4) rfl (nn_1 rfl) (by decide) rfl (fun ls hl => ?_)
              refine lv_goto (tgt := 4) hx hb dX0_fewestBlended_61 (by decide) ?_
              exact ih_4 ((a + 1)) none ls (by omega) (by have h := he; rw [lp, p_few] at h; rw [if_pos (show p_fewer a none = true from rfl)] at h; rw [if_neg (show ¬ (fun a => decide (p_blend r a = v)) a = true from fun z => c_49 (of_decide_eq_true z))] at h; exact h) (hb8) (lv_sub hl [3, 4, 1, 0] rfl)
            · skip
              refine lv_iload_n hx hb dX0_fewestBlended_52 rfl (lv_at hl 4 rfl) ?_
              refine lv_goto (tgt := 57) hx hb dX0_fewestBlended_53 (by decide) ?_
              refine lv_istore_n (lv' := [(2, .int ((nI a))), (4, .int (1)), (0, .ref (t.2.1 0)), (1, .int (v)), (3, .int ((nI a)))]) hx hb dX0_fewestBlended_57 rfl hl (by decide) rfl (fun ls hl => ?_)
              refine lv_iinc (v := (nI (a + 1))) (lv' := [(3, .int ((nI (a + 1)))), (2, .int ((nI a))), (4, .int (1)), (0, .ref (t.2.1 0)), (1, .int (v))]) hx hb dX0_fewestBlended_58 hl (k := 4) rfl (nn_1 rfl) (by decide) rfl (fun ls hl => ?_)
              refine lv_goto (tgt := 4) hx hb dX0_fewestBlended_61 (by decide) ?_
              exact ih_4 ((a + 1)) (some (a)) ls (by omega) (by have h := he; rw [lp, p_few] at h; rw [if_pos (show p_fewer a none = true from rfl)] at h; rw [if_pos (show (fun a => decide (p_blend r a = v)) a = true from decide_eq_true c_49)] at h; exact h) (fun i hi => by cases hi; omega) (lv_sub hl [3, 4, 1, 0] rfl)
        · skip
          obtain ⟨bb_17, rfl⟩ := c_17
          have hbb_17 := hb8 _ rfl
          refine lv_iload_n hx hb dX0_fewestBlended_20 rfl (lv_at hl 3 rfl) ?_
          refine cc_ones S (rm_ok (Nat.le_of_ble_eq_true rfl)) hl.1 (a) (by omega) rfl (Nat.le_of_ble_eq_true rfl) dX0_fewestBlended_21 ?_
          refine lv_iload_n hx hb dX0_fewestBlended_24 rfl (lv_at hl 2 rfl) ?_
          refine cc_ones S (rm_ok (Nat.le_of_ble_eq_true rfl)) hl.1 (bb_17) (by omega) (oi_some _) (Nat.le_of_ble_eq_true rfl) dX0_fewestBlended_25 ?_
          refine kb_ge_n (tgt := 35) (a := (p_many a)) (b := (p_many bb_17)) S rfl rfl (Nat.lt_of_le_of_lt (p_many_le _) (by omega)) (Nat.lt_of_le_of_lt (p_many_le _) (by omega)) dX0_fewestBlended_28 (by decide) (fun c_28 => ?_) (fun c_28 => ?_)
          · skip
            refine lv_iconst (v := 0) hx hb dX0_fewestBlended_35 (by decide) ?_
            refine lv_istore (lv' := [(4, .int (0)), (0, .ref (t.2.1 0)), (1, .int (v)), (2, .int ((oi (some bb_17)))), (3, .int ((nI a)))]) hx hb dX0_fewestBlended_36 hl (by decide) rfl (fun ls hl => ?_)
            refine lv_iload hx hb dX0_fewestBlended_38 (lv_at hl 0 rfl) ?_
            refine kb_eq0_n (tgt := 56) (a := 0) S rfl (by omega) dX0_fewestBlended_40 (by decide) (fun c_40 => ?_) (fun c_40 => ?_)
            · skip
              refine lv_iload_n hx hb dX0_fewestBlended_56 rfl (lv_at hl 3 rfl) ?_
              refine kb_nat (y := nI (bb_17)) (oi_some _) ?_
              refine lv_istore_n (lv' := [(2, .int ((nI bb_17))), (4, .int (0)), (0, .ref (t.2.1 0)), (1, .int (v)), (3, .int ((nI a)))]) hx hb dX0_fewestBlended_57 rfl hl (by decide) rfl (fun ls hl => ?_)
              refine lv_iinc (v := (nI (a + 1))) (lv' := [(3, .int ((nI (a + 1)))), (2, .int ((nI bb_17))), (4, .int (0)), (0, .ref (t.2.1 0)), (1, .int (v))]) hx hb dX0_fewestBlended_58 hl (k := 4) rfl (nn_1 rfl) (by decide) rfl (fun ls hl => ?_)
              refine lv_goto (tgt := 4) hx hb dX0_fewestBlended_61 (by decide) ?_
              exact ih_4 ((a + 1)) (some (bb_17)) ls (by omega) (by have h := he; rw [lp, p_few] at h; rw [if_neg (show ¬ p_fewer a (some bb_17) = true from fun z => absurd (of_decide_eq_true z) (Nat.not_lt.mpr c_28))] at h; exact h) (hb8) (lv_sub hl [3, 4, 1, 0] rfl)
            · exact absurd c_40 (by first | decide | omega)
          · skip
            refine lv_iconst (v := 1) hx hb dX0_fewestBlended_31 (by decide) ?_
            refine lv_goto (tgt := 36) hx hb dX0_fewestBlended_32 (by decide) ?_
            refine lv_istore (lv' := [(4, .int (1)), (0, .ref (t.2.1 0)), (1, .int (v)), (2, .int ((oi (some bb_17)))), (3, .int ((nI a)))]) hx hb dX0_fewestBlended_36 hl (by decide) rfl (fun ls hl => ?_)
            refine lv_iload hx hb dX0_fewestBlended_38 (lv_at hl 0 rfl) ?_
            refine kb_eq0_n (tgt := 56) (a := 1) S rfl (by omega) dX0_fewestBlended_40 (by decide) (fun c_40 => ?_) (fun c_40 => ?_)
            · exact absurd c_40 (by first | decide | omega)
            · skip
              refine lv_aload_n hx hb dX0_fewestBlended_43 rfl (lv_at hl 1 rfl) ?_
              refine lv_iload_n hx hb dX0_fewestBlended_44 rfl (lv_at hl 4 rfl) ?_
              refine cc_blendOf S hK hP (rm_ok (Nat.le_of_ble_eq_true rfl)) hl.1 (a) (b) hV (by omega) rfl (Nat.le_of_ble_eq_true rfl) dX0_fewestBlended_45 ?_
              refine lv_iload_n hx hb dX0_fewestBlended_48 rfl (lv_at hl 2 rfl) ?_
              refine lv_icmp_ne (tgt := 56) hx hb dX0_fewestBlended_49 (by decide) (fun c_49 => ?_) (fun c_49 => ?_)
              · skip
                refine lv_iload_n hx hb dX0_fewestBlended_56 rfl (lv_at hl 3 rfl) ?_
                refine kb_nat (y := nI (bb_17)) (oi_some _) ?_
                refine lv_istore_n (lv' := [(2, .int ((nI bb_17))), (4, .int (1)), (0, .ref (t.2.1 0)), (1, .int (v)), (3, .int ((nI a)))]) hx hb dX0_fewestBlended_57 rfl hl (by decide) rfl (fun ls hl => ?_)
                refine lv_iinc (v := (nI (a + 1))) (lv' := [(3, .int ((nI (a + 1)))), (2, .int ((nI bb_17))), (4, .int (1)), (0, .ref (t.2.1 0)), (1, .int (v))]) hx hb dX0_fewestBlended_58 hl (k := 4) rfl (nn_1 rfl) (by decide) rfl (fun ls hl => ?_)
                refine lv_goto (tgt := 4) hx hb dX0_fewestBlended_61 (by decide) ?_
                exact ih_4 ((a + 1)) (some (bb_17)) ls (by omega) (by have h := he; rw [lp, p_few] at h; rw [if_pos (show p_fewer a (some bb_17) = true from decide_eq_true c_28)] at h; rw [if_neg (show ¬ (fun a => decide (p_blend r a = v)) a = true from fun z => c_49 (of_decide_eq_true z))] at h; exact h) (hb8) (lv_sub hl [3, 4, 1, 0] rfl)
              · skip
                refine lv_iload_n hx hb dX0_fewestBlended_52 rfl (lv_at hl 4 rfl) ?_
                refine lv_goto (tgt := 57) hx hb dX0_fewestBlended_53 (by decide) ?_
                refine lv_istore_n (lv' := [(2, .int ((nI a))), (4, .int (1)), (0, .ref (t.2.1 0)), (1, .int (v)), (3, .int ((nI a)))]) hx hb dX0_fewestBlended_57 rfl hl (by decide) rfl (fun ls hl => ?_)
                refine lv_iinc (v := (nI (a + 1))) (lv' := [(3, .int ((nI (a + 1)))), (2, .int ((nI a))), (4, .int (1)), (0, .ref (t.2.1 0)), (1, .int (v))]) hx hb dX0_fewestBlended_58 hl (k := 4) rfl (nn_1 rfl) (by decide) rfl (fun ls hl => ?_)
                refine lv_goto (tgt := 4) hx hb dX0_fewestBlended_61 (by decide) ?_
                exact ih_4 ((a + 1)) (some (a)) ls (by omega) (by have h := he; rw [lp, p_few] at h; rw [if_pos (show p_fewer a (some bb_17) = true from decide_eq_true c_28)] at h; rw [if_pos (show (fun a => decide (p_blend r a = v)) a = true from decide_eq_true c_49)] at h; exact h) (fun i hi => by cases hi; omega) (lv_sub hl [3, 4, 1, 0] rfl)
  exact lp_4 (2 ^ pN r) 0 none ls (by omega) (rfl) (fun _ h => by cases h) (lv_sub hl [2, 3, 1, 0] rfl)
set_option maxHeartbeats 4000000 in
set_option maxRecDepth 100000 in
theorem k0_manyBlends (l : Launch) (t : CT) (r : Rw) (x : Nat → Rw) (v : Int32) (w : Int32) (b : Nat) (hV : pV b r) : Met l yX0_manyBlends (ws_ yX0_manyBlends cX0_manyBlends 5 (some .int)) (rmF 7) (va_Pc [.ref (t.2.1 0), .int v, .int w] (fun U => cK t U ∧ cX t r x U.heap)) (kR (some (.int (p_blends r v w)))) 0 0 (fun _ => False) := by
  refine kk_start (by decide) (Nat.le_of_ble_eq_true rfl) ?_
  intro p e s m below meth c S hr hlk hin hB ls hl
  obtain ⟨hK, hP⟩ := hB
  have hx := S.1
  have hb := S.2.1
  have hown : s.vm.findClass RX0 = some m.cls := S.2.2.2.1
  have hts := S.2.2.2.2
  have hl : lv_has ls 5 [(0, .ref (t.2.1 0)), (1, .int (v)), (2, .int (w))] := hl
  have hn := hV.n.1
  have hn8 := hV.n.2
  have hp2 := p2_le hn8
  have hp1 := p2_pos (pN r)
  refine lv_iconst (v := 0) hx hb dX0_manyBlends_0 (by decide) ?_
  refine lv_istore_n (lv' := [(3, .int (0)), (0, .ref (t.2.1 0)), (1, .int (v)), (2, .int (w))]) hx hb dX0_manyBlends_1 rfl hl (by decide) rfl (fun ls hl => ?_)
  refine lv_iconst (v := 0) hx hb dX0_manyBlends_2 (by decide) ?_
  refine lv_istore (lv' := [(4, .int (0)), (3, .int (0)), (0, .ref (t.2.1 0)), (1, .int (v)), (2, .int (w))]) hx hb dX0_manyBlends_3 hl (by decide) rfl (fun ls hl => ?_)
  have lp_5 : ∀ (j a : Nat) (y : Int32) (ls : Array Slot), a + j = 2 ^ pN r → (lp (fun a n => n + (if v ≤ p_blend r a ∧ p_blend r a ≤ w then 1 else 0)) j a y = p_blends r v w) → lv_has ls 5 [(0, .ref (t.2.1 0)), (1, .int (v)), (2, .int (w)), (3, .int (y)), (4, .int ((nI a)))] → W p l e (rmF 7) s m ([.ref (t.2.1 0), .int v, .int w] : List Value).toArray below meth c s.heap [] 0 0 (MQ below (kR (some (.int (p_blends r v w)))) ([.ref (t.2.1 0), .int v, .int w] : List Value).toArray s 0 0 (fun _ => False)) (F0 m 5 ls []) := by
    intro j
    induction j with
    | zero =>
      intro a y ls hkj he hl
      refine lv_iload hx hb dX0_manyBlends_5 (lv_at hl 4 rfl) ?_
      refine lv_aload_n hx hb dX0_manyBlends_7 rfl (lv_at hl 0 rfl) ?_
      refine cg_d S hK hP dX0_manyBlends_8 ?_
      refine d0_all S hK hP (rm_ok (Nat.le_of_ble_eq_true rfl)) hl.1 (b) hV (Nat.le_of_ble_eq_true rfl) dX0_manyBlends_11 ?_
      refine kb_gt_n (tgt := 45) (a := a) (b := (2 ^ pN r - 1)) S rfl rfl (by omega) (by omega) dX0_manyBlends_14 (by decide) (fun c_14 => ?_) (fun c_14 => ?_)
      · skip
        refine lv_iload_n hx hb dX0_manyBlends_45 rfl (lv_at hl 3 rfl) ?_
        exact kk_iretR S hr hlk rfl rfl (by rw [← he]; rfl) dX0_manyBlends_46
      · exact absurd c_14 (by omega)
    | succ j ih =>
      intro a y ls hkj he hl
      have ih_5 := ih
      refine lv_iload hx hb dX0_manyBlends_5 (lv_at hl 4 rfl) ?_
      refine lv_aload_n hx hb dX0_manyBlends_7 rfl (lv_at hl 0 rfl) ?_
      refine cg_d S hK hP dX0_manyBlends_8 ?_
      refine d0_all S hK hP (rm_ok (Nat.le_of_ble_eq_true rfl)) hl.1 (b) hV (Nat.le_of_ble_eq_true rfl) dX0_manyBlends_11 ?_
      refine kb_gt_n (tgt := 45) (a := a) (b := (2 ^ pN r - 1)) S rfl rfl (by omega) (by omega) dX0_manyBlends_14 (by decide) (fun c_14 => ?_) (fun c_14 => ?_)
      · exact absurd c_14 (by omega)
      · skip
        refine lv_iload_n hx hb dX0_manyBlends_17 rfl (lv_at hl 3 rfl) ?_
        refine lv_aload_n hx hb dX0_manyBlends_18 rfl (lv_at hl 0 rfl) ?_
        refine lv_iload hx hb dX0_manyBlends_19 (lv_at hl 4 rfl) ?_
        refine cc_blendOf S hK hP (rm_ok (Nat.le_of_ble_eq_true rfl)) hl.1 (a) (b) hV (by omega) rfl (Nat.le_of_ble_eq_true rfl) dX0_manyBlends_21 ?_
        refine lv_iload_n hx hb dX0_manyBlends_24 rfl (lv_at hl 1 rfl) ?_
        refine lv_iload_n hx hb dX0_manyBlends_25 rfl (lv_at hl 2 rfl) ?_
        refine cc_in S (rm_ok (Nat.le_of_ble_eq_true rfl)) hl.1 (Nat.le_of_ble_eq_true rfl) dX0_manyBlends_26 ?_
        refine kb_ifeq (tgt := 36) S dX0_manyBlends_29 (by decide) (fun c_29 => ?_) (fun c_29 => ?_)
        · skip
          refine lv_iconst (v := 0) hx hb dX0_manyBlends_36 (by decide) ?_
          refine lv_iadd hx hb dX0_manyBlends_37 ?_
          refine lv_istore_n (lv' := [(3, .int ((y + 0))), (0, .ref (t.2.1 0)), (1, .int (v)), (2, .int (w)), (4, .int ((nI a)))]) hx hb dX0_manyBlends_38 rfl hl (by decide) rfl (fun ls hl => ?_)
          refine lv_iinc (v := (nI (a + 1))) (lv' := [(4, .int ((nI (a + 1)))), (3, .int ((y + 0))), (0, .ref (t.2.1 0)), (1, .int (v)), (2, .int (w))]) hx hb dX0_manyBlends_39 hl (k := 4) rfl (nn_1 rfl) (by decide) rfl (fun ls hl => ?_)
          refine lv_goto (tgt := 5) hx hb dX0_manyBlends_42 (by decide) ?_
          exact ih_5 ((a + 1)) _ ls (by omega) (by have h := he; simp only [lp] at h; rw [if_neg c_29] at h; exact h) (lv_sub hl [2, 3, 4, 1, 0] rfl)
        · skip
          refine lv_iconst (v := 1) hx hb dX0_manyBlends_32 (by decide) ?_
          refine lv_goto (tgt := 37) hx hb dX0_manyBlends_33 (by decide) ?_
          refine lv_iadd hx hb dX0_manyBlends_37 ?_
          refine lv_istore_n (lv' := [(3, .int ((y + 1))), (0, .ref (t.2.1 0)), (1, .int (v)), (2, .int (w)), (4, .int ((nI a)))]) hx hb dX0_manyBlends_38 rfl hl (by decide) rfl (fun ls hl => ?_)
          refine lv_iinc (v := (nI (a + 1))) (lv' := [(4, .int ((nI (a + 1)))), (3, .int ((y + 1))), (0, .ref (t.2.1 0)), (1, .int (v)), (2, .int (w))]) hx hb dX0_manyBlends_39 hl (k := 4) rfl (nn_1 rfl) (by decide) rfl (fun ls hl => ?_)
          refine lv_goto (tgt := 5) hx hb dX0_manyBlends_42 (by decide) ?_
          exact ih_5 ((a + 1)) _ ls (by omega) (by have h := he; simp only [lp] at h; rw [if_pos c_29] at h; exact h) (lv_sub hl [2, 3, 4, 1, 0] rfl)
  exact lp_5 (2 ^ pN r) 0 _ ls (by omega) (rfl) (lv_sub hl [2, 3, 4, 1, 0] rfl)
section CC
variable {p : Program} {l : Launch} {e : Env} {R : Room} {s : State} {m : MethodId} {args : Array Value} {below : List Frame} {meth : Method} {c : Code} {H H0 : Heap} {locs : List Loc} {cells slots : Nat} {Q : State → Prop}
variable {cc : ByteArray} {pc nL : Nat} {ls : Array Slot} {rest : List Value} {t : CT} {r : Rw} {x : Nat → Rw}
theorem cc_fewestEmptied (S : CallFix p m c cc nL s args lw_all RX0) (hK : cK t s) (hP : cX t r x H) (hS : va_S (cA t) H0 H locs) (hR : kRm R 12 cells slots) (hsz : ls.size = nL) (n : Nat) (b : Nat) (hV : pV b r) (hbn : b + n < 2 ^ 30) {i0 : Int32} (e0 : i0 = nI n) (hrest : (rest.map fun v => v.category).sum ≤ 8) (hdg : decode cc pc = .ok (.invokevirtual 278, 3)) (kk : ∀ (x1 : Nat → Rw) (H1 : Heap) (locs1 : List Loc), cJ (x) x1 → cX t (r) x1 H1 → va_S (cA t) H0 H1 locs1 → W p l e R s m args below meth c H1 locs1 cells slots Q (F0 m (pc + 3) ls (.int (oi (p_empt r n)) :: rest))) : W p l e R s m args below meth c H locs cells slots Q (F0 m pc ls (.int i0 :: .ref (t.2.1 0) :: rest)) := by
  subst e0
  exact kk_Wi (W.runV (As := [.int (nI n)]) (rest := rest) S (k0_fewestEmptied l t r x n b hV hbn) (cwV 1 S.2.2.2.2 (lw_V q901 q903 qs26 q101 q904) rfl rfl rfl (by decide +kernel) ⟨hR.1, by have := hR.2.1; show 8 + (5 + 11) + 38 * 11 ≤ R.locals; omega⟩) ⟨c_blind, c_recv hK hP, c_pre hK hP⟩ rfl rfl hsz rfl (lv_room hrest) hdg ⟨hR.2.2.1, hR.2.2.2⟩) hS (fun _ h => h) (fun _ h => h) (fun H1 locs1 hB _ _ hS => by obtain ⟨x1, hj, hB⟩ := hB; exact kk x1 H1 locs1 hj hB hS)
theorem cc_fewestBlended (S : CallFix p m c cc nL s args lw_all RX0) (hK : cK t s) (hP : cX t r x H) (hR : kRm R 8 cells slots) (hsz : ls.size = nL) {v : Int32} (b : Nat) (hV : pV b r) (hrest : (rest.map fun v => v.category).sum ≤ 8) (hdg : decode cc pc = .ok (.invokevirtual 284, 3)) (kk : W p l e R s m args below meth c H locs cells slots Q (F0 m (pc + 3) ls (.int (oi (p_order r v)) :: rest))) : W p l e R s m args below meth c H locs cells slots Q (F0 m pc ls (.int v :: .ref (t.2.1 0) :: rest)) := by
  exact kk_Ri (W.runV (As := [.int v]) (rest := rest) S (k0_fewestBlended l t r x v b hV) (cwV 1 S.2.2.2.2 (lw_V q921 q923 qs28 q101 q924) rfl rfl rfl (by decide +kernel) ⟨hR.1, by have := hR.2.1; show 8 + (5 + 11) + 38 * 7 ≤ R.locals; omega⟩) ⟨c_blind, c_recv hK hP, c_pre hK hP⟩ rfl rfl hsz rfl (lv_room hrest) hdg ⟨hR.2.2.1, hR.2.2.2⟩) kk
theorem cc_manyBlends (S : CallFix p m c cc nL s args lw_all RX0) (hK : cK t s) (hP : cX t r x H) (hR : kRm R 8 cells slots) (hsz : ls.size = nL) {v : Int32} {w : Int32} (b : Nat) (hV : pV b r) (hrest : (rest.map fun v => v.category).sum ≤ 8) (hdg : decode cc pc = .ok (.invokevirtual 287, 3)) (kk : W p l e R s m args below meth c H locs cells slots Q (F0 m (pc + 3) ls (.int (p_blends r v w) :: rest))) : W p l e R s m args below meth c H locs cells slots Q (F0 m pc ls (.int w :: .int v :: .ref (t.2.1 0) :: rest)) := by
  exact kk_Ri (W.runV (As := [.int v, .int w]) (rest := rest) S (k0_manyBlends l t r x v w b hV) (cwV 2 S.2.2.2.2 (lw_V q929 q931 qs29 q101 q932) rfl rfl rfl (by decide +kernel) ⟨hR.1, by have := hR.2.1; show 8 + (5 + 11) + 38 * 7 ≤ R.locals; omega⟩) ⟨c_blind, c_recv hK hP, c_pre hK hP⟩ rfl rfl hsz rfl (lv_room hrest) hdg ⟨hR.2.2.1, hR.2.2.2⟩) kk
end CC
theorem few_lt {b : Nat} {r : Rw} (hV : pV b r) {P : Nat → Bool} {i : Nat} (h : lp (p_few P) (2 ^ pN r) 0 none = some i) : i < 256 := by
  have h8 := p2_le hV.n.2
  refine lp_opt (N := 256) (fun k o i hk ho hf => ?_) _ _ _ (by omega) (fun _ h => by cases h) i h
  unfold p_few at hf
  split at hf
  · split at hf
    · cases hf; exact hk
    · exact ho i hf
  · exact ho i hf
set_option maxHeartbeats 4000000 in
set_option maxRecDepth 100000 in
theorem k0_empty (l : Launch) (t : CT) (r : Rw) (x : Nat → Rw) (n : Int32) (b : Nat) (hV : pV b r) (hb : b ≤ 99999) : Met l yX0_empty (ws_ yX0_empty cX0_empty 2 (some .int)) (rmF 12) (va_Pc [.ref (t.2.1 0), .int n] (fun U => cK t U ∧ cX t r x U.heap)) (kW (some (.int ((o_empty r n).1))) (fun H => ∃ x1, cJ (fx x (o_empty r n).2.2) x1 ∧ cX t ((o_empty r n).2.1) x1 H) (cA t)) 0 0 (cA t) := by
  refine kk_start (by decide) (Nat.le_of_ble_eq_true rfl) ?_
  intro p e s m below meth c S hr hlk hin hB ls hl
  obtain ⟨hK, hP⟩ := hB
  have hx := S.1
  have hb := S.2.1
  have hown : s.vm.findClass RX0 = some m.cls := S.2.2.2.1
  have hts := S.2.2.2.2
  have hS : va_S (cA t) s.heap s.heap [] := va_S.rf
  have hl : lv_has ls 2 [(0, .ref (t.2.1 0)), (1, .int (n))] := hl
  have hn := hV.n.1
  have hn8 := hV.n.2
  refine lv_iload_n hx hb dX0_empty_0 rfl (lv_at hl 1 rfl) ?_
  refine lv_iconst (v := 0) hx hb dX0_empty_1 (by decide) ?_
  refine lv_bipush (v := 12) hx hb dX0_empty_2 (by decide) ?_
  refine cc_in S (rm_ok (Nat.le_of_ble_eq_true rfl)) hl.1 (Nat.le_of_ble_eq_true rfl) dX0_empty_4 ?_
  refine kb_ifeq (tgt := 22) S dX0_empty_7 (by decide) (fun c_7 => ?_) (fun c_7 => ?_)
  · skip
    refine lv_aload_n hx hb dX0_empty_22 rfl (lv_at hl 0 rfl) ?_
    refine lv_iconst (v := 0) hx hb dX0_empty_23 (by decide) ?_
    refine cc_finding S hK hP hS (rm_ok (Nat.le_of_ble_eq_true rfl)) hl.1 (0) (by omega) rfl (Nat.le_of_ble_eq_true rfl) dX0_empty_24 (fun H locs hP hS => ?_)
    have ho : o_empty r n = (fnd 0, r, some 0) := by first | (simp only [o_empty, c_7, reduceIte, and_self, oF, oK]; done) | (simp [o_empty, oF, oK, fnd, c_7]; done) | (unfold o_empty oF oK; grind)
    exact kk_iretW S hr hlk hS (by rw [ho]; exact ⟨_, ((cJ.rf _)).fnd 0, hP⟩) (by rw [ho]) dX0_empty_27
  · skip
    obtain ⟨n_, hn_, rfl⟩ := nat_of_le (n := 12) (rfl) (by omega) c_7
    have hcl_n_ := nI_clamp (n := n_) (by omega)
    refine lv_aload_n hx hb dX0_empty_10 rfl (lv_at hl 0 rfl) ?_
    refine lv_aload_n hx hb dX0_empty_11 rfl (lv_at hl 0 rfl) ?_
    refine lv_iload_n hx hb dX0_empty_12 rfl (lv_at hl 1 rfl) ?_
    refine cc_fewestEmptied S hK hP hS (rm_ok (Nat.le_of_ble_eq_true rfl)) hl.1 (n_) (b) hV (by omega) rfl (Nat.le_of_ble_eq_true rfl) dX0_empty_13 (fun x_3 H locs hj_3 hP hS => ?_)
    refine cc_orNoneO S hK hP hS (rm_ok (Nat.le_of_ble_eq_true rfl)) hl.1 (fun i hi => Nat.lt_trans (few_lt hV hi) (by decide)) (Nat.le_of_ble_eq_true rfl) dX0_empty_16 (fun H locs hP hS => ?_)
    refine lv_goto (tgt := 27) hx hb dX0_empty_19 (by decide) ?_
    have ho : o_empty r (nI n_) = (oU (p_empt r n_) r) := by first | (simp only [o_empty, c_7, hcl_n_, reduceIte, and_self, oF, oK]; done) | (simp [o_empty, oF, oK, fnd, c_7, hcl_n_]; done) | (unfold o_empty oF oK; grind)
    exact kk_iretW S hr hlk hS (by rw [ho, oU_r]; exact ⟨_, (((cJ.rf _)).tr hj_3).fx (oU (p_empt r n_) r).2.2, hP⟩) (by rw [ho]) dX0_empty_27
set_option maxHeartbeats 4000000 in
set_option maxRecDepth 100000 in
theorem k0_order (l : Launch) (t : CT) (r : Rw) (x : Nat → Rw) (v : Int32) (b : Nat) (hV : pV b r) : Met l yX0_order (ws_ yX0_order cX0_order 2 (some .int)) (rmF 8) (va_Pc [.ref (t.2.1 0), .int v] (fun U => cK t U ∧ cX t r x U.heap)) (kW (some (.int ((o_order r v).1))) (cX t ((o_order r v).2.1) (fx x (o_order r v).2.2)) (cA t)) 0 0 (cA t) := by
  refine kk_start (by decide) (Nat.le_of_ble_eq_true rfl) ?_
  intro p e s m below meth c S hr hlk hin hB ls hl
  obtain ⟨hK, hP⟩ := hB
  have hx := S.1
  have hb := S.2.1
  have hown : s.vm.findClass RX0 = some m.cls := S.2.2.2.1
  have hts := S.2.2.2.2
  have hS : va_S (cA t) s.heap s.heap [] := va_S.rf
  have hl : lv_has ls 2 [(0, .ref (t.2.1 0)), (1, .int (v))] := hl
  have hn := hV.n.1
  have hn8 := hV.n.2
  refine lv_iload_n hx hb dX0_order_0 rfl (lv_at hl 1 rfl) ?_
  refine cc_isBlend S (rm_ok (Nat.le_of_ble_eq_true rfl)) hl.1 (Nat.le_of_ble_eq_true rfl) dX0_order_1 ?_
  refine kb_ifeq (tgt := 19) S dX0_order_4 (by decide) (fun c_4 => ?_) (fun c_4 => ?_)
  · skip
    refine lv_aload_n hx hb dX0_order_19 rfl (lv_at hl 0 rfl) ?_
    refine lv_iconst (v := 0) hx hb dX0_order_20 (by decide) ?_
    refine cc_finding S hK hP hS (rm_ok (Nat.le_of_ble_eq_true rfl)) hl.1 (0) (by omega) rfl (Nat.le_of_ble_eq_true rfl) dX0_order_21 (fun H locs hP hS => ?_)
    have ho : o_order r v = (fnd 0, r, some 0) := by first | (simp only [o_order, c_4, reduceIte, and_self, oF, oK]; done) | (simp [o_order, oF, oK, fnd, c_4]; done) | (unfold o_order oF oK; grind)
    exact kk_iretW S hr hlk hS (by rw [ho]; exact hP) (by rw [ho]) dX0_order_24
  · skip
    refine lv_aload_n hx hb dX0_order_7 rfl (lv_at hl 0 rfl) ?_
    refine lv_aload_n hx hb dX0_order_8 rfl (lv_at hl 0 rfl) ?_
    refine lv_iload_n hx hb dX0_order_9 rfl (lv_at hl 1 rfl) ?_
    refine cc_fewestBlended S hK hP (rm_ok (Nat.le_of_ble_eq_true rfl)) hl.1 (b) hV (Nat.le_of_ble_eq_true rfl) dX0_order_10 ?_
    refine cc_orNoneO S hK hP hS (rm_ok (Nat.le_of_ble_eq_true rfl)) hl.1 (fun i hi => Nat.lt_trans (few_lt hV hi) (by decide)) (Nat.le_of_ble_eq_true rfl) dX0_order_13 (fun H locs hP hS => ?_)
    refine lv_goto (tgt := 24) hx hb dX0_order_16 (by decide) ?_
    have ho : o_order r v = (oU (p_order r v) r) := by first | (simp only [o_order, c_4, reduceIte, and_self, oF, oK]; done) | (simp [o_order, oF, oK, fnd, c_4]; done) | (unfold o_order oF oK; grind)
    exact kk_iretW S hr hlk hS (by rw [ho, oU_r]; exact hP) (by rw [ho]) dX0_order_24
set_option maxHeartbeats 4000000 in
set_option maxRecDepth 100000 in
theorem k0_blends (l : Launch) (t : CT) (r : Rw) (x : Nat → Rw) (v : Int32) (w : Int32) (b : Nat) (hV : pV b r) : Met l yX0_blends (ws_ yX0_blends cX0_blends 3 (some .int)) (rmF 8) (va_Pc [.ref (t.2.1 0), .int v, .int w] (fun U => cK t U ∧ cX t r x U.heap)) (kW (some (.int ((o_blends r v w).1))) (cX t ((o_blends r v w).2.1) (fx x (o_blends r v w).2.2)) (cA t)) 0 0 (cA t) := by
  refine kk_start (by decide) (Nat.le_of_ble_eq_true rfl) ?_
  intro p e s m below meth c S hr hlk hin hB ls hl
  obtain ⟨hK, hP⟩ := hB
  have hx := S.1
  have hb := S.2.1
  have hown : s.vm.findClass RX0 = some m.cls := S.2.2.2.1
  have hts := S.2.2.2.2
  have hS : va_S (cA t) s.heap s.heap [] := va_S.rf
  have hl : lv_has ls 3 [(0, .ref (t.2.1 0)), (1, .int (v)), (2, .int (w))] := hl
  have hn := hV.n.1
  have hn8 := hV.n.2
  refine lv_iload_n hx hb dX0_blends_0 rfl (lv_at hl 1 rfl) ?_
  refine cc_isBlend S (rm_ok (Nat.le_of_ble_eq_true rfl)) hl.1 (Nat.le_of_ble_eq_true rfl) dX0_blends_1 ?_
  refine kb_ifeq (tgt := 23) S dX0_blends_4 (by decide) (fun c_4 => ?_) (fun c_4 => ?_)
  · skip
    refine lv_aload_n hx hb dX0_blends_23 rfl (lv_at hl 0 rfl) ?_
    refine lv_iconst (v := 0) hx hb dX0_blends_24 (by decide) ?_
    refine cc_finding S hK hP hS (rm_ok (Nat.le_of_ble_eq_true rfl)) hl.1 (0) (by omega) rfl (Nat.le_of_ble_eq_true rfl) dX0_blends_25 (fun H locs hP hS => ?_)
    have ho : o_blends r v w = (fnd 0, r, some 0) := by first | (simp only [o_blends, c_4, reduceIte, and_self, oF, oK]; done) | (simp [o_blends, oF, oK, fnd, c_4]; done) | (unfold o_blends oF oK; grind)
    exact kk_iretW S hr hlk hS (by rw [ho]; exact hP) (by rw [ho]) dX0_blends_28
  · skip
    refine lv_iload_n hx hb dX0_blends_7 rfl (lv_at hl 2 rfl) ?_
    refine cc_isBlend S (rm_ok (Nat.le_of_ble_eq_true rfl)) hl.1 (Nat.le_of_ble_eq_true rfl) dX0_blends_8 ?_
    refine kb_ifeq (tgt := 23) S dX0_blends_11 (by decide) (fun c_11 => ?_) (fun c_11 => ?_)
    · skip
      refine lv_aload_n hx hb dX0_blends_23 rfl (lv_at hl 0 rfl) ?_
      refine lv_iconst (v := 0) hx hb dX0_blends_24 (by decide) ?_
      refine cc_finding S hK hP hS (rm_ok (Nat.le_of_ble_eq_true rfl)) hl.1 (0) (by omega) rfl (Nat.le_of_ble_eq_true rfl) dX0_blends_25 (fun H locs hP hS => ?_)
      have ho : o_blends r v w = (fnd 0, r, some 0) := by first | (simp only [o_blends, c_4, c_11, reduceIte, and_self, oF, oK]; done) | (simp [o_blends, oF, oK, fnd, c_4, c_11]; done) | (unfold o_blends oF oK; grind)
      exact kk_iretW S hr hlk hS (by rw [ho]; exact hP) (by rw [ho]) dX0_blends_28
    · skip
      refine lv_aload_n hx hb dX0_blends_14 rfl (lv_at hl 0 rfl) ?_
      refine lv_iload_n hx hb dX0_blends_15 rfl (lv_at hl 1 rfl) ?_
      refine lv_iload_n hx hb dX0_blends_16 rfl (lv_at hl 2 rfl) ?_
      refine cc_manyBlends S hK hP (rm_ok (Nat.le_of_ble_eq_true rfl)) hl.1 (b) hV (Nat.le_of_ble_eq_true rfl) dX0_blends_17 ?_
      refine lv_goto (tgt := 28) hx hb dX0_blends_20 (by decide) ?_
      have ho : o_blends r v w = (p_blends r v w, r, none) := by first | (simp only [o_blends, c_4, c_11, reduceIte, and_self, oF, oK]; done) | (simp [o_blends, oF, oK, fnd, c_4, c_11]; done) | (unfold o_blends oF oK; grind)
      exact kk_iretW S hr hlk hS (by rw [ho]; exact hP) (by rw [ho]) dX0_blends_28
set_option maxHeartbeats 4000000 in
set_option maxRecDepth 100000 in
theorem k0_blend (l : Launch) (t : CT) (r : Rw) (x : Nat → Rw) (a : Int32) (b : Nat) (hV : pV b r) : Met l yX0_blend (ws_ yX0_blend cX0_blend 2 (some .int)) (rmF 7) (va_Pc [.ref (t.2.1 0), .int a] (fun U => cK t U ∧ cX t r x U.heap)) (kW (some (.int ((o_blend r a).1))) (cX t ((o_blend r a).2.1) (fx x (o_blend r a).2.2)) (cA t)) 0 0 (cA t) := by
  refine kk_start (by decide) (Nat.le_of_ble_eq_true rfl) ?_
  intro p e s m below meth c S hr hlk hin hB ls hl
  obtain ⟨hK, hP⟩ := hB
  have hx := S.1
  have hb := S.2.1
  have hown : s.vm.findClass RX0 = some m.cls := S.2.2.2.1
  have hts := S.2.2.2.2
  have hS : va_S (cA t) s.heap s.heap [] := va_S.rf
  have hl : lv_has ls 2 [(0, .ref (t.2.1 0)), (1, .int (a))] := hl
  have hn := hV.n.1
  have hn8 := hV.n.2
  have hp2 := p2_le hn8
  have hp1 := p2_pos (pN r)
  refine lv_iload_n hx hb dX0_blend_0 rfl (lv_at hl 1 rfl) ?_
  refine lv_iconst (v := 0) hx hb dX0_blend_1 (by decide) ?_
  refine lv_aload_n hx hb dX0_blend_2 rfl (lv_at hl 0 rfl) ?_
  refine cg_d S hK hP dX0_blend_3 ?_
  refine d0_all S hK hP (rm_ok (Nat.le_of_ble_eq_true rfl)) hl.1 (b) hV (Nat.le_of_ble_eq_true rfl) dX0_blend_6 ?_
  refine cc_in S (rm_ok (Nat.le_of_ble_eq_true rfl)) hl.1 (Nat.le_of_ble_eq_true rfl) dX0_blend_9 ?_
  refine kb_ifeq (tgt := 23) S dX0_blend_12 (by decide) (fun c_12 => ?_) (fun c_12 => ?_)
  · skip
    refine lv_aload_n hx hb dX0_blend_23 rfl (lv_at hl 0 rfl) ?_
    refine lv_iconst (v := 0) hx hb dX0_blend_24 (by decide) ?_
    refine cc_finding S hK hP hS (rm_ok (Nat.le_of_ble_eq_true rfl)) hl.1 (0) (by omega) rfl (Nat.le_of_ble_eq_true rfl) dX0_blend_25 (fun H locs hP hS => ?_)
    have ho : o_blend r a = (fnd 0, r, some 0) := by first | (simp only [o_blend, c_12, reduceIte, and_self, oF, oK]; done) | (simp [o_blend, oF, oK, fnd, c_12]; done) | (unfold o_blend oF oK; grind)
    exact kk_iretW S hr hlk hS (by rw [ho]; exact hP) (by rw [ho]) dX0_blend_28
  · skip
    obtain ⟨a_, ha_, rfl⟩ := nat_of_le (n := 2 ^ pN r - 1) (rfl) (by omega) c_12
    have hcl_a_ := nI_clamp (n := a_) (by omega)
    refine lv_aload_n hx hb dX0_blend_15 rfl (lv_at hl 0 rfl) ?_
    refine lv_iload_n hx hb dX0_blend_16 rfl (lv_at hl 1 rfl) ?_
    refine cc_blendOf S hK hP (rm_ok (Nat.le_of_ble_eq_true rfl)) hl.1 (a_) (b) hV (by omega) rfl (Nat.le_of_ble_eq_true rfl) dX0_blend_17 ?_
    refine lv_goto (tgt := 28) hx hb dX0_blend_20 (by decide) ?_
    have ho : o_blend r (nI a_) = (p_blend r a_, r, none) := by first | (simp only [o_blend, c_12, hcl_a_, reduceIte, and_self, oF, oK]; done) | (simp [o_blend, oF, oK, fnd, c_12, hcl_a_]; done) | (unfold o_blend oF oK; grind)
    exact kk_iretW S hr hlk hS (by rw [ho]; exact hP) (by rw [ho]) dX0_blend_28
section CC
variable {p : Program} {l : Launch} {e : Env} {R : Room} {s : State} {m : MethodId} {args : Array Value} {below : List Frame} {meth : Method} {c : Code} {H H0 : Heap} {locs : List Loc} {cells slots : Nat} {Q : State → Prop}
variable {cc : ByteArray} {pc nL : Nat} {ls : Array Slot} {rest : List Value} {t : CT} {r : Rw} {x : Nat → Rw}
end CC

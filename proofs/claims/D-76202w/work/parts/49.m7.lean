set_option maxHeartbeats 4000000 in
set_option maxRecDepth 100000 in
theorem k_isAsked (l : Launch) (t : MT) (r : Rw) (x : Nat → Rw) (v : Int32) (n : Int32) : Met l yX13_isAsked (ws_ yX13_isAsked cX13_isAsked 3 (some .boolean)) (rmF 1) (va_Pc [.ref (t.2.1 0), .int v, .int n] (fun U => mK t U ∧ mW t r x U.heap)) (kR (some (.int (b2i ((0 ≤ v ∧ v < r 0) ∧ 0 ≤ n ∧ n ≤ 40))))) 0 0 (fun _ => False) := by
  refine kk_start (by decide) (Nat.le_of_ble_eq_true rfl) ?_
  intro p e s m below meth c S hr hlk hin hB ls hl
  obtain ⟨hK, hP⟩ := hB
  have hx := S.1
  have hb := S.2.1
  have hown : s.vm.findClass RX13 = some m.cls := S.2.2.2.1
  have hts := S.2.2.2.2
  have hl : lv_has ls 3 [(0, .ref (t.2.1 0)), (1, .int (v)), (2, .int (n))] := hl
  refine lv_aload_n hx hb dX13_isAsked_0 rfl (lv_at hl 0 rfl) ?_
  refine lv_iload_n hx hb dX13_isAsked_1 rfl (lv_at hl 1 rfl) ?_
  refine c_isCask S hK hP (rm_ok (Nat.le_of_ble_eq_true rfl)) hl.1 (Nat.le_of_ble_eq_true rfl) dX13_isAsked_2 ?_
  refine kb_ifeq (tgt := 24) S dX13_isAsked_5 (by decide) (fun c_5 => ?_) (fun c_5 => ?_)
  · skip
    refine lv_iconst (v := 0) hx hb dX13_isAsked_24 (by decide) ?_
    exact kk_zfR S hr hlk rfl rfl (fun z => c_5 z.1) dX13_isAsked_25
  · skip
    refine lv_iload_n hx hb dX13_isAsked_8 rfl (lv_at hl 2 rfl) ?_
    refine lv_i2l hx hb dX13_isAsked_9 rfl ?_
    refine lv_lconst (v := (0 : Int32).toInt64) hx hb dX13_isAsked_10 (by decide) ?_
    refine lv_ldc2 (v := ((40) : Int32).toInt64) hx hb hown (hts _ q1480) dX13_isAsked_11 ?_
    refine c_isIn S (rm_ok (Nat.le_of_ble_eq_true rfl)) hl.1 (Nat.le_of_ble_eq_true rfl) dX13_isAsked_14 ?_
    refine kb_ifeq (tgt := 24) S dX13_isAsked_17 (by decide) (fun c_17 => ?_) (fun c_17 => ?_)
    · skip
      refine lv_iconst (v := 0) hx hb dX13_isAsked_24 (by decide) ?_
      exact kk_zfR S hr hlk rfl rfl (fun z => c_17 z.2) dX13_isAsked_25
    · skip
      refine lv_iconst (v := 1) hx hb dX13_isAsked_20 (by decide) ?_
      refine lv_goto (tgt := 25) hx hb dX13_isAsked_21 (by decide) ?_
      exact kk_ztR S hr hlk rfl rfl (⟨c_5, c_17⟩) dX13_isAsked_25
set_option maxHeartbeats 4000000 in
set_option maxRecDepth 100000 in
theorem k_loudestBy (l : Launch) (t : MT) (r : Rw) (x : Nat → Rw) (k : Nat) (w : Nat) (n : Nat) (b : Nat) (hk : k < 8) (hw : w = 0 ∨ w = 1 ∨ w = 3) (hV : pV b r) (hbn : b + n < 2 ^ 30) : Met l yX13_loudestBy (ws_ yX13_loudestBy cX13_loudestBy 9 (some .int)) (rmF 7) (va_Pc [.ref (t.2.1 0), .int (nI k), .int (nI w), .int (nI n)] (fun U => mK t U ∧ mW t r x U.heap)) (kW (some (.int ((p_by r k w n).1))) (fun H => ∃ f, mW t (r) (va_up (x) 3 f) H) (mA t)) 0 0 (mA t) := by
  refine kk_start (by decide) (Nat.le_of_ble_eq_true rfl) ?_
  intro p e s m below meth c S hr hlk hin hB ls hl
  obtain ⟨hK, hP⟩ := hB
  have hx := S.1
  have hb := S.2.1
  have hown : s.vm.findClass RX13 = some m.cls := S.2.2.2.1
  have hts := S.2.2.2.2
  have hS : va_S (mA t) s.heap s.heap [] := va_S.rf
  have hl : lv_has ls 9 [(0, .ref (t.2.1 0)), (1, .int ((nI k))), (2, .int ((nI w))), (3, .int ((nI n)))] := hl
  have hgw : gN w < 20 := by rcases hw with rfl | rfl | rfl <;> decide
  refine lv_aload_n hx hb dX13_loudestBy_0 rfl (lv_at hl 0 rfl) ?_
  refine lv_iload_n hx hb dX13_loudestBy_1 rfl (lv_at hl 1 rfl) ?_
  refine lv_iload_n hx hb dX13_loudestBy_2 rfl (lv_at hl 2 rfl) ?_
  refine c_its S hK hP (rm_ok (Nat.le_of_ble_eq_true rfl)) hl.1 (k) (w) (by omega) (by omega) rfl rfl (Nat.le_of_ble_eq_true rfl) dX13_loudestBy_3 ?_
  refine lv_istore (lv' := [(4, .int (r (16 + 7 * k + w))), (0, .ref (t.2.1 0)), (1, .int ((nI k))), (2, .int ((nI w))), (3, .int ((nI n)))]) hx hb dX13_loudestBy_6 hl (by decide) rfl (fun ls hl => ?_)
  refine lv_iconst (v := 0) hx hb dX13_loudestBy_8 (by decide) ?_
  refine lv_istore (lv' := [(5, .int (0)), (4, .int (r (16 + 7 * k + w))), (0, .ref (t.2.1 0)), (1, .int ((nI k))), (2, .int ((nI w))), (3, .int ((nI n)))]) hx hb dX13_loudestBy_9 hl (by decide) rfl (fun ls hl => ?_)
  refine lv_iconst (v := (-1)) hx hb dX13_loudestBy_11 (by decide) ?_
  refine lv_istore (lv' := [(6, .int ((-1))), (5, .int (0)), (4, .int (r (16 + 7 * k + w))), (0, .ref (t.2.1 0)), (1, .int ((nI k))), (2, .int ((nI w))), (3, .int ((nI n)))]) hx hb dX13_loudestBy_12 hl (by decide) rfl (fun ls hl => ?_)
  refine lv_iconst (v := 0) hx hb dX13_loudestBy_14 (by decide) ?_
  refine lv_istore (lv' := [(7, .int (0)), (6, .int ((-1))), (5, .int (0)), (4, .int (r (16 + 7 * k + w))), (0, .ref (t.2.1 0)), (1, .int ((nI k))), (2, .int ((nI w))), (3, .int ((nI n)))]) hx hb dX13_loudestBy_15 hl (by decide) rfl (fun ls hl => ?_)
  have lp_17 : ∀ (j v : Nat) (bs : Int32) (ms : Int32) (r1 : Rw) (x1 : Nat → Rw) (H : Heap) (locs : List Loc) (ls : Array Slot), v + j = gN w + 1 → (lp (p_byf r k w n) j v (bs, ms) = p_by r k w n) → (∃ u, r1 = upd r (16 + 7 * k + w) u) → (∃ f, x1 = va_up x 3 f) → mW t (r1) (x1) H → va_S (mA t) s.heap H locs → lv_has ls 9 [(0, .ref (t.2.1 0)), (1, .int ((nI k))), (2, .int ((nI w))), (3, .int ((nI n))), (4, .int (r (16 + 7 * k + w))), (5, .int (bs)), (6, .int (ms)), (7, .int ((nI v)))] → W p l e (rmF 7) s m ([.ref (t.2.1 0), .int (nI k), .int (nI w), .int (nI n)] : List Value).toArray below meth c H locs 0 0 (MQ below (kW (some (.int ((p_by r k w n).1))) (fun H => ∃ f, mW t (r) (va_up (x) 3 f) H) (mA t)) ([.ref (t.2.1 0), .int (nI k), .int (nI w), .int (nI n)] : List Value).toArray s 0 0 (mA t)) (F0 m 17 ls []) := by
    intro j
    induction j with
    | zero =>
      intro v bs ms r1 x1 H locs ls hkj he hr1 hx1 hP hS hl
      obtain ⟨u1, rfl⟩ := hr1
      obtain ⟨f1, rfl⟩ := hx1
      refine lv_iload hx hb dX13_loudestBy_17 (lv_at hl 7 rfl) ?_
      refine lv_iload_n hx hb dX13_loudestBy_19 rfl (lv_at hl 2 rfl) ?_
      refine c_greatestOf S (rm_ok (Nat.le_of_ble_eq_true rfl)) hl.1 (Nat.le_of_ble_eq_true rfl) dX13_loudestBy_20 ?_
      refine kb_gt_n (tgt := 79) (a := v) (b := (gN w)) S rfl (p_great_n w (by omega)) (by omega) (by omega) dX13_loudestBy_23 (by decide) (fun c_23 => ?_) (fun c_23 => ?_)
      · skip
        refine lv_aload_n hx hb dX13_loudestBy_79 rfl (lv_at hl 0 rfl) ?_
        refine mg_s S hK hP dX13_loudestBy_80 ?_
        refine lv_iload_n hx hb dX13_loudestBy_83 rfl (lv_at hl 1 rfl) ?_
        refine lv_iload_n hx hb dX13_loudestBy_84 rfl (lv_at hl 2 rfl) ?_
        refine c_at S (rm_ok (Nat.le_of_ble_eq_true rfl)) hl.1 (k) (w) rfl rfl (Nat.le_of_ble_eq_true rfl) dX13_loudestBy_85 ?_
        refine lv_iload hx hb dX13_loudestBy_88 (lv_at hl 4 rfl) ?_
        refine mk_sts S hK hP hS ((16 + 7 * k + w)) (by omega) rfl dX13_loudestBy_90 (fun H locs hP hS => ?_)
        rw [up_up, up_eta] at hP
        refine lv_iload hx hb dX13_loudestBy_91 (lv_at hl 5 rfl) ?_
        exact kk_iretW S hr hlk hS (⟨_, hP⟩) (by rw [← he]; rfl) dX13_loudestBy_93
      · exact absurd c_23 (by omega)
    | succ j ih =>
      intro v bs ms r1 x1 H locs ls hkj he hr1 hx1 hP hS hl
      have ih_17 := ih
      obtain ⟨u1, rfl⟩ := hr1
      obtain ⟨f1, rfl⟩ := hx1
      refine lv_iload hx hb dX13_loudestBy_17 (lv_at hl 7 rfl) ?_
      refine lv_iload_n hx hb dX13_loudestBy_19 rfl (lv_at hl 2 rfl) ?_
      refine c_greatestOf S (rm_ok (Nat.le_of_ble_eq_true rfl)) hl.1 (Nat.le_of_ble_eq_true rfl) dX13_loudestBy_20 ?_
      refine kb_gt_n (tgt := 79) (a := v) (b := (gN w)) S rfl (p_great_n w (by omega)) (by omega) (by omega) dX13_loudestBy_23 (by decide) (fun c_23 => ?_) (fun c_23 => ?_)
      · exact absurd c_23 (by omega)
      · skip
        refine lv_aload_n hx hb dX13_loudestBy_26 rfl (lv_at hl 0 rfl) ?_
        refine mg_s S hK hP dX13_loudestBy_27 ?_
        refine lv_iload_n hx hb dX13_loudestBy_30 rfl (lv_at hl 1 rfl) ?_
        refine lv_iload_n hx hb dX13_loudestBy_31 rfl (lv_at hl 2 rfl) ?_
        refine c_at S (rm_ok (Nat.le_of_ble_eq_true rfl)) hl.1 (k) (w) rfl rfl (Nat.le_of_ble_eq_true rfl) dX13_loudestBy_32 ?_
        refine lv_iload hx hb dX13_loudestBy_35 (lv_at hl 7 rfl) ?_
        refine mk_sts S hK hP hS ((16 + 7 * k + w)) (by omega) rfl dX13_loudestBy_37 (fun H locs hP hS => ?_)
        rw [up_up] at hP
        refine lv_aload_n hx hb dX13_loudestBy_38 rfl (lv_at hl 0 rfl) ?_
        refine lv_iload_n hx hb dX13_loudestBy_39 rfl (lv_at hl 1 rfl) ?_
        refine lv_bipush (v := 7) hx hb dX13_loudestBy_40 (by decide) ?_
        refine lv_iload_n hx hb dX13_loudestBy_42 rfl (lv_at hl 3 rfl) ?_
        refine c_then S hK hP hS (rm_ok (Nat.le_of_ble_eq_true rfl)) hl.1 (k) (7) (n) (b) (by omega) (by decide) (pV_set hV hk (by omega) (fun z => by subst z; have : gN 0 = 6 := rfl; omega) (fun z => by subst z; have : gN 1 = 5 := rfl; omega)) (by omega) rfl rfl rfl (Nat.le_of_ble_eq_true rfl) dX13_loudestBy_43 (fun H locs hP hS => ?_)
        refine lv_istore (lv' := [(8, .int (p_told (p_goes n (upd r (16 + 7 * k + w) (nI v))) k 7)), (0, .ref (t.2.1 0)), (1, .int ((nI k))), (2, .int ((nI w))), (3, .int ((nI n))), (4, .int (r (16 + 7 * k + w))), (5, .int (bs)), (6, .int (ms)), (7, .int ((nI v)))]) hx hb dX13_loudestBy_46 hl (by decide) rfl (fun ls hl => ?_)
        refine lv_iload hx hb dX13_loudestBy_48 (lv_at hl 0 rfl) ?_
        refine lv_iload hx hb dX13_loudestBy_50 (lv_at hl 7 rfl) ?_
        refine lv_icmp_le (tgt := 60) hx hb dX13_loudestBy_52 (by decide) (fun c_52 => ?_) (fun c_52 => ?_)
        · skip
          refine lv_iload hx hb dX13_loudestBy_60 (lv_at hl 6 rfl) ?_
          refine lv_istore (lv' := [(5, .int (bs)), (8, .int (p_told (p_goes n (upd r (16 + 7 * k + w) (nI v))) k 7)), (0, .ref (t.2.1 0)), (1, .int ((nI k))), (2, .int ((nI w))), (3, .int ((nI n))), (4, .int (r (16 + 7 * k + w))), (6, .int (ms)), (7, .int ((nI v)))]) hx hb dX13_loudestBy_62 hl (by decide) rfl (fun ls hl => ?_)
          refine lv_iload hx hb dX13_loudestBy_64 (lv_at hl 7 rfl) ?_
          refine lv_iload hx hb dX13_loudestBy_66 (lv_at hl 1 rfl) ?_
          refine c_greatest S (rm_ok (Nat.le_of_ble_eq_true rfl)) hl.1 (Nat.le_of_ble_eq_true rfl) dX13_loudestBy_68 ?_
          refine lv_istore (lv' := [(6, .int (imax ms (p_told (p_goes n (upd r (16 + 7 * k + w) (nI v))) k 7))), (5, .int (bs)), (8, .int (p_told (p_goes n (upd r (16 + 7 * k + w) (nI v))) k 7)), (0, .ref (t.2.1 0)), (1, .int ((nI k))), (2, .int ((nI w))), (3, .int ((nI n))), (4, .int (r (16 + 7 * k + w))), (7, .int ((nI v)))]) hx hb dX13_loudestBy_71 hl (by decide) rfl (fun ls hl => ?_)
          refine lv_iinc (v := (nI (v + 1))) (lv' := [(7, .int ((nI (v + 1)))), (6, .int (imax ms (p_told (p_goes n (upd r (16 + 7 * k + w) (nI v))) k 7))), (5, .int (bs)), (8, .int (p_told (p_goes n (upd r (16 + 7 * k + w) (nI v))) k 7)), (0, .ref (t.2.1 0)), (1, .int ((nI k))), (2, .int ((nI w))), (3, .int ((nI n))), (4, .int (r (16 + 7 * k + w)))]) hx hb dX13_loudestBy_73 hl (k := 8) rfl (nn_1 rfl) (by decide) rfl (fun ls hl => ?_)
          refine lv_goto (tgt := 17) hx hb dX13_loudestBy_76 (by decide) ?_
          exact ih_17 ((v + 1)) _ _ _ _ _ _ ls (by omega) (by have h := he; simp only [lp, p_byf] at h; rw [if_neg (show ¬ ms < p_byT r k w n v from Int32.not_lt.mpr c_52)] at h; exact h) (⟨_, rfl⟩) (⟨_, bx_uu _ _ _ _⟩) hP hS (lv_sub hl [4, 5, 6, 7, 8, 2, 1, 0] rfl)
        · skip
          refine lv_iload hx hb dX13_loudestBy_55 (lv_at hl 8 rfl) ?_
          refine lv_goto (tgt := 62) hx hb dX13_loudestBy_57 (by decide) ?_
          refine lv_istore (lv' := [(5, .int ((nI v))), (8, .int (p_told (p_goes n (upd r (16 + 7 * k + w) (nI v))) k 7)), (0, .ref (t.2.1 0)), (1, .int ((nI k))), (2, .int ((nI w))), (3, .int ((nI n))), (4, .int (r (16 + 7 * k + w))), (6, .int (ms)), (7, .int ((nI v)))]) hx hb dX13_loudestBy_62 hl (by decide) rfl (fun ls hl => ?_)
          refine lv_iload hx hb dX13_loudestBy_64 (lv_at hl 7 rfl) ?_
          refine lv_iload hx hb dX13_loudestBy_66 (lv_at hl 1 rfl) ?_
          refine c_greatest S (rm_ok (Nat.le_of_ble_eq_true rfl)) hl.1 (Nat.le_of_ble_eq_true rfl) dX13_loudestBy_68 ?_
          refine lv_istore (lv' := [(6, .int (imax ms (p_told (p_goes n (upd r (16 + 7 * k + w) (nI v))) k 7))), (5, .int ((nI v))), (8, .int (p_told (p_goes n (upd r (16 + 7 * k + w) (nI v))) k 7)), (0, .ref (t.2.1 0)), (1, .int ((nI k))), (2, .int ((nI w))), (3, .int ((nI n))), (4, .int (r (16 + 7 * k + w))), (7, .int ((nI v)))]) hx hb dX13_loudestBy_71 hl (by decide) rfl (fun ls hl => ?_)
          refine lv_iinc (v := (nI (v + 1))) (lv' := [(7, .int ((nI (v + 1)))), (6, .int (imax ms (p_told (p_goes n (upd r (16 + 7 * k + w) (nI v))) k 7))), (5, .int ((nI v))), (8, .int (p_told (p_goes n (upd r (16 + 7 * k + w) (nI v))) k 7)), (0, .ref (t.2.1 0)), (1, .int ((nI k))), (2, .int ((nI w))), (3, .int ((nI n))), (4, .int (r (16 + 7 * k + w)))]) hx hb dX13_loudestBy_73 hl (k := 8) rfl (nn_1 rfl) (by decide) rfl (fun ls hl => ?_)
          refine lv_goto (tgt := 17) hx hb dX13_loudestBy_76 (by decide) ?_
          exact ih_17 ((v + 1)) _ _ _ _ _ _ ls (by omega) (by have h := he; simp only [lp, p_byf] at h; rw [if_pos (show ms < p_byT r k w n v from Int32.not_le.mp c_52)] at h; exact h) (⟨_, rfl⟩) (⟨_, bx_uu _ _ _ _⟩) hP hS (lv_sub hl [4, 5, 6, 7, 8, 2, 1, 0] rfl)
  exact lp_17 (gN w + 1) 0 _ _ _ _ _ _ ls (by omega) (rfl) (⟨_, (up_eta r _).symm⟩) (⟨_, (va_eta x 3).symm⟩) hP hS (lv_sub hl [4, 5, 6, 7, 3, 2, 1, 0] rfl)
section MC
variable {p : Program} {l : Launch} {e : Env} {R : Room} {s : State} {m : MethodId} {args : Array Value} {below : List Frame} {meth : Method} {c : Code} {H H0 : Heap} {locs : List Loc} {cells slots : Nat} {Q : State → Prop}
variable {cc : ByteArray} {pc nL : Nat} {ls : Array Slot} {rest : List Value} {t : MT} {r : Rw} {x : Nat → Rw}
theorem c_isAsked (S : CallFix p m c cc nL s args lw_all RX13) (hK : mK t s) (hP : mW t r x H) (hR : kRm R 2 cells slots) (hsz : ls.size = nL) {v : Int32} {n : Int32} (hrest : (rest.map fun v => v.category).sum ≤ 8) (hdg : decode cc pc = .ok (.invokevirtual 161, 3)) (kk : W p l e R s m args below meth c H locs cells slots Q (F0 m (pc + 3) ls (.int (b2i ((0 ≤ v ∧ v < r 0) ∧ 0 ≤ n ∧ n ≤ 40)) :: rest))) : W p l e R s m args below meth c H locs cells slots Q (F0 m pc ls (.int n :: .int v :: .ref (t.2.1 0) :: rest)) := by
  exact kk_Ri (W.runV (As := [.int v, .int n]) (rest := rest) S (k_isAsked l t r x v n) (cwV 2 S.2.2.2.2 (lw_V q1476 q1478 qs77 q117 q1479) rfl rfl rfl (by decide +kernel) ⟨hR.1, by have := hR.2.1; show 8 + (3 + 11) + 38 * 1 ≤ R.locals; omega⟩) ⟨m_blind, m_recv hK hP, m_pre hK hP⟩ rfl rfl hsz rfl (lv_room hrest) hdg ⟨hR.2.2.1, hR.2.2.2⟩) kk
theorem c_loudestBy (S : CallFix p m c cc nL s args lw_all RX13) (hK : mK t s) (hP : mW t r x H) (hS : va_S (mA t) H0 H locs) (hR : kRm R 8 cells slots) (hsz : ls.size = nL) (k : Nat) (w : Nat) (n : Nat) (b : Nat) (hk : k < 8) (hw : w = 0 ∨ w = 1 ∨ w = 3) (hV : pV b r) (hbn : b + n < 2 ^ 30) {i0 : Int32} (e0 : i0 = nI k) {i1 : Int32} (e1 : i1 = nI w) {i2 : Int32} (e2 : i2 = nI n) (hrest : (rest.map fun v => v.category).sum ≤ 8) (hdg : decode cc pc = .ok (.invokevirtual 165, 3)) (kk : ∀ (f : Rw) (H1 : Heap) (locs1 : List Loc), mW t (r) (va_up (x) 3 f) H1 → va_S (mA t) H0 H1 locs1 → W p l e R s m args below meth c H1 locs1 cells slots Q (F0 m (pc + 3) ls (.int ((p_by r k w n).1) :: rest))) : W p l e R s m args below meth c H locs cells slots Q (F0 m pc ls (.int i2 :: .int i1 :: .int i0 :: .ref (t.2.1 0) :: rest)) := by
  subst e0
  subst e1
  subst e2
  exact kk_Wi (W.runV (As := [.int (nI k), .int (nI w), .int (nI n)]) (rest := rest) S (k_loudestBy l t r x k w n b hk hw hV hbn) (cwV 3 S.2.2.2.2 (lw_V q1481 q1483 qs78 q117 q1484) rfl rfl rfl (by decide +kernel) ⟨hR.1, by have := hR.2.1; show 8 + (9 + 11) + 38 * 7 ≤ R.locals; omega⟩) ⟨m_blind, m_recv hK hP, m_pre hK hP⟩ rfl rfl hsz rfl (lv_room hrest) hdg ⟨hR.2.2.1, hR.2.2.2⟩) hS (fun _ h => h) (fun _ h => h) (fun H1 locs1 hB _ _ hS => by obtain ⟨f, hB⟩ := hB; exact kk f H1 locs1 hB hS)
end MC
set_option maxHeartbeats 4000000 in
set_option maxRecDepth 100000 in
theorem k_lay (l : Launch) (t : MT) (r : Rw) (x : Nat → Rw) (a : Int32) (n : Int32) (b : Nat) (hV : pV b r) (hb : b ≤ 99999) : Met l yX13_lay (ws_ yX13_lay cX13_lay 3 (some .int)) (rmF 8) (va_Pc [.ref (t.2.1 0), .int a, .int n] (fun U => mK t U ∧ mW t r x U.heap)) (kW (some (.int ((o_lay r a n).1))) (fun H => ∃ f, mW t ((o_lay r a n).2.1) (va_up (fx x (o_lay r a n).2.2) 3 f) H) (mA t)) 0 0 (mA t) := by
  refine kk_start (by decide) (Nat.le_of_ble_eq_true rfl) ?_
  intro p e s m below meth c S hr hlk hin hB ls hl
  obtain ⟨hK, hP⟩ := hB
  have hx := S.1
  have hb := S.2.1
  have hown : s.vm.findClass RX13 = some m.cls := S.2.2.2.1
  have hts := S.2.2.2.2
  have hS : va_S (mA t) s.heap s.heap [] := va_S.rf
  have hl : lv_has ls 3 [(0, .ref (t.2.1 0)), (1, .int (a)), (2, .int (n))] := hl
  have hn := hV.n.1
  have hn8 := hV.n.2
  refine lv_aload_n hx hb dX13_lay_0 rfl (lv_at hl 0 rfl) ?_
  refine lv_iload_n hx hb dX13_lay_1 rfl (lv_at hl 1 rfl) ?_
  refine lv_iload_n hx hb dX13_lay_2 rfl (lv_at hl 2 rfl) ?_
  refine c_isAsked S hK hP (rm_ok (Nat.le_of_ble_eq_true rfl)) hl.1 (Nat.le_of_ble_eq_true rfl) dX13_lay_3 ?_
  refine kb_ifeq (tgt := 19) S dX13_lay_6 (by decide) (fun c_6 => ?_) (fun c_6 => ?_)
  · skip
    refine lv_aload_n hx hb dX13_lay_19 rfl (lv_at hl 0 rfl) ?_
    refine lv_ldc (v := (-1000001)) hx hb hown (hts _ q1305) dX13_lay_20 ?_
    refine c_finds S hK hP hS (rm_ok (Nat.le_of_ble_eq_true rfl)) hl.1 (0) (by decide) (by decide) (Nat.le_of_ble_eq_true rfl) dX13_lay_22 (fun H locs hP hS => ?_)
    exact kk_iretW S hr hlk hS (by simp only [o_lay, c_6, reduceIte, and_self, oF, oK, fx]; exact mW_a hP) (by simp only [o_lay, c_6, reduceIte, and_self, oF, oK, fnd] <;> first | rfl | decide) dX13_lay_25
  · skip
    obtain ⟨a_, ha_, rfl⟩ := nat_of_lt (n := pN r) (hn) (by omega) c_6.1
    have hcl_a_ := nI_clamp (n := a_) (by omega)
    obtain ⟨n_, hn_, rfl⟩ := nat_of_le (n := 40) (rfl) (by omega) c_6.2
    have hcl_n_ := nI_clamp (n := n_) (by omega)
    refine lv_aload_n hx hb dX13_lay_9 rfl (lv_at hl 0 rfl) ?_
    refine lv_iload_n hx hb dX13_lay_10 rfl (lv_at hl 1 rfl) ?_
    refine lv_iconst (v := 1) hx hb dX13_lay_11 (by decide) ?_
    refine lv_iload_n hx hb dX13_lay_12 rfl (lv_at hl 2 rfl) ?_
    refine c_loudestBy S hK hP hS (rm_ok (Nat.le_of_ble_eq_true rfl)) hl.1 (a_) (1) (n_) (b) (by omega) (by decide) hV (by omega) rfl rfl rfl (Nat.le_of_ble_eq_true rfl) dX13_lay_13 (fun f_3 H locs hP hS => ?_)
    refine lv_goto (tgt := 25) hx hb dX13_lay_16 (by decide) ?_
    exact kk_iretW S hr hlk hS (by simp only [o_lay, c_6, hcl_a_, hcl_n_, reduceIte, and_self, oF, oK, fx]; exact ⟨_, hP⟩) (by simp only [o_lay, c_6, hcl_a_, hcl_n_, reduceIte, and_self, oF, oK, fnd] <;> first | rfl | decide) dX13_lay_25
set_option maxHeartbeats 4000000 in
set_option maxRecDepth 100000 in
theorem k_kindFor (l : Launch) (t : MT) (r : Rw) (x : Nat → Rw) (a : Int32) (n : Int32) (b : Nat) (hV : pV b r) (hb : b ≤ 99999) : Met l yX13_kindFor (ws_ yX13_kindFor cX13_kindFor 3 (some .int)) (rmF 8) (va_Pc [.ref (t.2.1 0), .int a, .int n] (fun U => mK t U ∧ mW t r x U.heap)) (kW (some (.int ((o_kindFor r a n).1))) (fun H => ∃ f, mW t ((o_kindFor r a n).2.1) (va_up (fx x (o_kindFor r a n).2.2) 3 f) H) (mA t)) 0 0 (mA t) := by
  refine kk_start (by decide) (Nat.le_of_ble_eq_true rfl) ?_
  intro p e s m below meth c S hr hlk hin hB ls hl
  obtain ⟨hK, hP⟩ := hB
  have hx := S.1
  have hb := S.2.1
  have hown : s.vm.findClass RX13 = some m.cls := S.2.2.2.1
  have hts := S.2.2.2.2
  have hS : va_S (mA t) s.heap s.heap [] := va_S.rf
  have hl : lv_has ls 3 [(0, .ref (t.2.1 0)), (1, .int (a)), (2, .int (n))] := hl
  have hn := hV.n.1
  have hn8 := hV.n.2
  refine lv_aload_n hx hb dX13_kindFor_0 rfl (lv_at hl 0 rfl) ?_
  refine lv_iload_n hx hb dX13_kindFor_1 rfl (lv_at hl 1 rfl) ?_
  refine lv_iload_n hx hb dX13_kindFor_2 rfl (lv_at hl 2 rfl) ?_
  refine c_isAsked S hK hP (rm_ok (Nat.le_of_ble_eq_true rfl)) hl.1 (Nat.le_of_ble_eq_true rfl) dX13_kindFor_3 ?_
  refine kb_ifeq (tgt := 19) S dX13_kindFor_6 (by decide) (fun c_6 => ?_) (fun c_6 => ?_)
  · skip
    refine lv_aload_n hx hb dX13_kindFor_19 rfl (lv_at hl 0 rfl) ?_
    refine lv_ldc (v := (-1000001)) hx hb hown (hts _ q1305) dX13_kindFor_20 ?_
    refine c_finds S hK hP hS (rm_ok (Nat.le_of_ble_eq_true rfl)) hl.1 (0) (by decide) (by decide) (Nat.le_of_ble_eq_true rfl) dX13_kindFor_22 (fun H locs hP hS => ?_)
    exact kk_iretW S hr hlk hS (by simp only [o_kindFor, c_6, reduceIte, and_self, oF, oK, fx]; exact mW_a hP) (by simp only [o_kindFor, c_6, reduceIte, and_self, oF, oK, fnd] <;> first | rfl | decide) dX13_kindFor_25
  · skip
    obtain ⟨a_, ha_, rfl⟩ := nat_of_lt (n := pN r) (hn) (by omega) c_6.1
    have hcl_a_ := nI_clamp (n := a_) (by omega)
    obtain ⟨n_, hn_, rfl⟩ := nat_of_le (n := 40) (rfl) (by omega) c_6.2
    have hcl_n_ := nI_clamp (n := n_) (by omega)
    refine lv_aload_n hx hb dX13_kindFor_9 rfl (lv_at hl 0 rfl) ?_
    refine lv_iload_n hx hb dX13_kindFor_10 rfl (lv_at hl 1 rfl) ?_
    refine lv_iconst (v := 0) hx hb dX13_kindFor_11 (by decide) ?_
    refine lv_iload_n hx hb dX13_kindFor_12 rfl (lv_at hl 2 rfl) ?_
    refine c_loudestBy S hK hP hS (rm_ok (Nat.le_of_ble_eq_true rfl)) hl.1 (a_) (0) (n_) (b) (by omega) (by decide) hV (by omega) rfl rfl rfl (Nat.le_of_ble_eq_true rfl) dX13_kindFor_13 (fun f_3 H locs hP hS => ?_)
    refine lv_goto (tgt := 25) hx hb dX13_kindFor_16 (by decide) ?_
    exact kk_iretW S hr hlk hS (by simp only [o_kindFor, c_6, hcl_a_, hcl_n_, reduceIte, and_self, oF, oK, fx]; exact ⟨_, hP⟩) (by simp only [o_kindFor, c_6, hcl_a_, hcl_n_, reduceIte, and_self, oF, oK, fnd] <;> first | rfl | decide) dX13_kindFor_25
set_option maxHeartbeats 4000000 in
set_option maxRecDepth 100000 in
theorem k_pitchFor (l : Launch) (t : MT) (r : Rw) (x : Nat → Rw) (a : Int32) (n : Int32) (b : Nat) (hV : pV b r) (hb : b ≤ 99999) : Met l yX13_pitchFor (ws_ yX13_pitchFor cX13_pitchFor 3 (some .int)) (rmF 8) (va_Pc [.ref (t.2.1 0), .int a, .int n] (fun U => mK t U ∧ mW t r x U.heap)) (kW (some (.int ((o_pitchFor r a n).1))) (fun H => ∃ f, mW t ((o_pitchFor r a n).2.1) (va_up (fx x (o_pitchFor r a n).2.2) 3 f) H) (mA t)) 0 0 (mA t) := by
  refine kk_start (by decide) (Nat.le_of_ble_eq_true rfl) ?_
  intro p e s m below meth c S hr hlk hin hB ls hl
  obtain ⟨hK, hP⟩ := hB
  have hx := S.1
  have hb := S.2.1
  have hown : s.vm.findClass RX13 = some m.cls := S.2.2.2.1
  have hts := S.2.2.2.2
  have hS : va_S (mA t) s.heap s.heap [] := va_S.rf
  have hl : lv_has ls 3 [(0, .ref (t.2.1 0)), (1, .int (a)), (2, .int (n))] := hl
  have hn := hV.n.1
  have hn8 := hV.n.2
  refine lv_aload_n hx hb dX13_pitchFor_0 rfl (lv_at hl 0 rfl) ?_
  refine lv_iload_n hx hb dX13_pitchFor_1 rfl (lv_at hl 1 rfl) ?_
  refine lv_iload_n hx hb dX13_pitchFor_2 rfl (lv_at hl 2 rfl) ?_
  refine c_isAsked S hK hP (rm_ok (Nat.le_of_ble_eq_true rfl)) hl.1 (Nat.le_of_ble_eq_true rfl) dX13_pitchFor_3 ?_
  refine kb_ifeq (tgt := 19) S dX13_pitchFor_6 (by decide) (fun c_6 => ?_) (fun c_6 => ?_)
  · skip
    refine lv_aload_n hx hb dX13_pitchFor_19 rfl (lv_at hl 0 rfl) ?_
    refine lv_ldc (v := (-1000001)) hx hb hown (hts _ q1305) dX13_pitchFor_20 ?_
    refine c_finds S hK hP hS (rm_ok (Nat.le_of_ble_eq_true rfl)) hl.1 (0) (by decide) (by decide) (Nat.le_of_ble_eq_true rfl) dX13_pitchFor_22 (fun H locs hP hS => ?_)
    exact kk_iretW S hr hlk hS (by simp only [o_pitchFor, c_6, reduceIte, and_self, oF, oK, fx]; exact mW_a hP) (by simp only [o_pitchFor, c_6, reduceIte, and_self, oF, oK, fnd] <;> first | rfl | decide) dX13_pitchFor_25
  · skip
    obtain ⟨a_, ha_, rfl⟩ := nat_of_lt (n := pN r) (hn) (by omega) c_6.1
    have hcl_a_ := nI_clamp (n := a_) (by omega)
    obtain ⟨n_, hn_, rfl⟩ := nat_of_le (n := 40) (rfl) (by omega) c_6.2
    have hcl_n_ := nI_clamp (n := n_) (by omega)
    refine lv_aload_n hx hb dX13_pitchFor_9 rfl (lv_at hl 0 rfl) ?_
    refine lv_iload_n hx hb dX13_pitchFor_10 rfl (lv_at hl 1 rfl) ?_
    refine lv_iconst (v := 3) hx hb dX13_pitchFor_11 (by decide) ?_
    refine lv_iload_n hx hb dX13_pitchFor_12 rfl (lv_at hl 2 rfl) ?_
    refine c_loudestBy S hK hP hS (rm_ok (Nat.le_of_ble_eq_true rfl)) hl.1 (a_) (3) (n_) (b) (by omega) (by decide) hV (by omega) rfl rfl rfl (Nat.le_of_ble_eq_true rfl) dX13_pitchFor_13 (fun f_3 H locs hP hS => ?_)
    refine lv_goto (tgt := 25) hx hb dX13_pitchFor_16 (by decide) ?_
    exact kk_iretW S hr hlk hS (by simp only [o_pitchFor, c_6, hcl_a_, hcl_n_, reduceIte, and_self, oF, oK, fx]; exact ⟨_, hP⟩) (by simp only [o_pitchFor, c_6, hcl_a_, hcl_n_, reduceIte, and_self, oF, oK, fnd] <;> first | rfl | decide) dX13_pitchFor_25
set_option maxHeartbeats 4000000 in
set_option maxRecDepth 100000 in
theorem k_blendOf (l : Launch) (t : MT) (r : Rw) (x : Nat → Rw) (a : Nat) (b : Nat) (hV : pV b r) (ha : a < 2 ^ 31) : Met l yX13_blendOf (ws_ yX13_blendOf cX13_blendOf 4 (some .int)) (rmF 3) (va_Pc [.ref (t.2.1 0), .int (nI a)] (fun U => mK t U ∧ mW t r x U.heap)) (kR (some (.int (p_blend r a)))) 0 0 (fun _ => False) := by
  refine kk_start (by decide) (Nat.le_of_ble_eq_true rfl) ?_
  intro p e s m below meth c S hr hlk hin hB ls hl
  obtain ⟨hK, hP⟩ := hB
  have hx := S.1
  have hb := S.2.1
  have hown : s.vm.findClass RX13 = some m.cls := S.2.2.2.1
  have hts := S.2.2.2.2
  have hl : lv_has ls 4 [(0, .ref (t.2.1 0)), (1, .int ((nI a)))] := hl
  have hn := hV.n.1
  have hn8 := hV.n.2
  refine lv_iconst (v := 0) hx hb dX13_blendOf_0 (by decide) ?_
  refine lv_istore_n (lv' := [(2, .int (0)), (0, .ref (t.2.1 0)), (1, .int ((nI a)))]) hx hb dX13_blendOf_1 rfl hl (by decide) rfl (fun ls hl => ?_)
  refine lv_iconst (v := 0) hx hb dX13_blendOf_2 (by decide) ?_
  refine lv_istore_n (lv' := [(3, .int (0)), (2, .int (0)), (0, .ref (t.2.1 0)), (1, .int ((nI a)))]) hx hb dX13_blendOf_3 rfl hl (by decide) rfl (fun ls hl => ?_)
  have lp_4 : ∀ (j k : Nat) (sm : Int32) (ls : Array Slot), k + j = pN r → (lp (fun k s => s + (if (a / 2 ^ k) &&& 1 = 1 then p_loud r k else 0)) j k sm = p_blend r a) → lv_has ls 4 [(0, .ref (t.2.1 0)), (1, .int ((nI a))), (2, .int (sm)), (3, .int ((nI k)))] → W p l e (rmF 3) s m ([.ref (t.2.1 0), .int (nI a)] : List Value).toArray below meth c s.heap [] 0 0 (MQ below (kR (some (.int (p_blend r a)))) ([.ref (t.2.1 0), .int (nI a)] : List Value).toArray s 0 0 (fun _ => False)) (F0 m 4 ls []) := by
    intro j
    induction j with
    | zero =>
      intro k sm ls hkj he hl
      refine lv_iload_n hx hb dX13_blendOf_4 rfl (lv_at hl 3 rfl) ?_
      refine lv_aload_n hx hb dX13_blendOf_5 rfl (lv_at hl 0 rfl) ?_
      refine mg_s S hK hP dX13_blendOf_6 ?_
      refine lv_iconst (v := 0) hx hb dX13_blendOf_9 (by decide) ?_
      refine mk_lds S hK hP (0) (by omega) rfl dX13_blendOf_10 ?_
      refine kb_ge_n (tgt := 41) (a := k) (b := (pN r)) S rfl hn (by omega) (by omega) dX13_blendOf_11 (by decide) (fun c_11 => ?_) (fun c_11 => ?_)
      · skip
        refine lv_iload_n hx hb dX13_blendOf_41 rfl (lv_at hl 2 rfl) ?_
        exact kk_iretR S hr hlk rfl rfl (by rw [← he]; rfl) dX13_blendOf_42
      · exact absurd c_11 (by omega)
    | succ j ih =>
      intro k sm ls hkj he hl
      have ih_4 := ih
      refine lv_iload_n hx hb dX13_blendOf_4 rfl (lv_at hl 3 rfl) ?_
      refine lv_aload_n hx hb dX13_blendOf_5 rfl (lv_at hl 0 rfl) ?_
      refine mg_s S hK hP dX13_blendOf_6 ?_
      refine lv_iconst (v := 0) hx hb dX13_blendOf_9 (by decide) ?_
      refine mk_lds S hK hP (0) (by omega) rfl dX13_blendOf_10 ?_
      refine kb_ge_n (tgt := 41) (a := k) (b := (pN r)) S rfl hn (by omega) (by omega) dX13_blendOf_11 (by decide) (fun c_11 => ?_) (fun c_11 => ?_)
      · exact absurd c_11 (by omega)
      · skip
        refine lv_iload_n hx hb dX13_blendOf_14 rfl (lv_at hl 2 rfl) ?_
        refine lv_iload_n hx hb dX13_blendOf_15 rfl (lv_at hl 1 rfl) ?_
        refine lv_iload_n hx hb dX13_blendOf_16 rfl (lv_at hl 3 rfl) ?_
        refine lv_ishr hx hb dX13_blendOf_17 ?_
        refine lv_iconst (v := 1) hx hb dX13_blendOf_18 (by decide) ?_
        refine lv_iand hx hb dX13_blendOf_19 ?_
        refine lv_iconst (v := 1) hx hb dX13_blendOf_20 (by decide) ?_
        refine kb_ne_n (tgt := 32) (a := ((a / 2 ^ k) &&& 1)) (b := 1) S (nn_and (nn_shr (by omega) (by omega)) rfl) rfl (Nat.lt_of_le_of_lt Nat.and_le_right (by omega)) (by omega) dX13_blendOf_21 (by decide) (fun c_21 => ?_) (fun c_21 => ?_)
        · skip
          refine lv_iconst (v := 0) hx hb dX13_blendOf_32 (by decide) ?_
          refine lv_iadd hx hb dX13_blendOf_33 ?_
          refine lv_istore_n (lv' := [(2, .int ((sm + 0))), (0, .ref (t.2.1 0)), (1, .int ((nI a))), (3, .int ((nI k)))]) hx hb dX13_blendOf_34 rfl hl (by decide) rfl (fun ls hl => ?_)
          refine lv_iinc (v := (nI (k + 1))) (lv' := [(3, .int ((nI (k + 1)))), (2, .int ((sm + 0))), (0, .ref (t.2.1 0)), (1, .int ((nI a)))]) hx hb dX13_blendOf_35 hl (k := 3) rfl (nn_1 rfl) (by decide) rfl (fun ls hl => ?_)
          refine lv_goto (tgt := 4) hx hb dX13_blendOf_38 (by decide) ?_
          exact ih_4 ((k + 1)) _ ls (by omega) (by have h := he; simp only [lp] at h; rw [if_neg c_21] at h; exact h) (lv_sub hl [2, 3, 1, 0] rfl)
        · skip
          refine lv_aload_n hx hb dX13_blendOf_24 rfl (lv_at hl 0 rfl) ?_
          refine lv_iload_n hx hb dX13_blendOf_25 rfl (lv_at hl 3 rfl) ?_
          refine c_loud S hK hP (rm_ok (Nat.le_of_ble_eq_true rfl)) hl.1 (k) (b) (by omega) hV rfl (Nat.le_of_ble_eq_true rfl) dX13_blendOf_26 ?_
          refine lv_goto (tgt := 33) hx hb dX13_blendOf_29 (by decide) ?_
          refine lv_iadd hx hb dX13_blendOf_33 ?_
          refine lv_istore_n (lv' := [(2, .int ((sm + p_loud r k))), (0, .ref (t.2.1 0)), (1, .int ((nI a))), (3, .int ((nI k)))]) hx hb dX13_blendOf_34 rfl hl (by decide) rfl (fun ls hl => ?_)
          refine lv_iinc (v := (nI (k + 1))) (lv' := [(3, .int ((nI (k + 1)))), (2, .int ((sm + p_loud r k))), (0, .ref (t.2.1 0)), (1, .int ((nI a)))]) hx hb dX13_blendOf_35 hl (k := 3) rfl (nn_1 rfl) (by decide) rfl (fun ls hl => ?_)
          refine lv_goto (tgt := 4) hx hb dX13_blendOf_38 (by decide) ?_
          exact ih_4 ((k + 1)) _ ls (by omega) (by have h := he; simp only [lp] at h; rw [if_pos c_21] at h; exact h) (lv_sub hl [2, 3, 1, 0] rfl)
  exact lp_4 (pN r) 0 _ ls (by omega) (rfl) (lv_sub hl [2, 3, 1, 0] rfl)
section MC
variable {p : Program} {l : Launch} {e : Env} {R : Room} {s : State} {m : MethodId} {args : Array Value} {below : List Frame} {meth : Method} {c : Code} {H H0 : Heap} {locs : List Loc} {cells slots : Nat} {Q : State → Prop}
variable {cc : ByteArray} {pc nL : Nat} {ls : Array Slot} {rest : List Value} {t : MT} {r : Rw} {x : Nat → Rw}



theorem c_blendOf (S : CallFix p m c cc nL s args lw_all RX13) (hK : mK t s) (hP : mW t r x H) (hR : kRm R 4 cells slots) (hsz : ls.size = nL) (a : Nat) (b : Nat) (hV : pV b r) (ha : a < 2 ^ 31) {i0 : Int32} (e0 : i0 = nI a) (hrest : (rest.map fun v => v.category).sum ≤ 8) (hdg : decode cc pc = .ok (.invokevirtual 175, 3)) (kk : W p l e R s m args below meth c H locs cells slots Q (F0 m (pc + 3) ls (.int (p_blend r a) :: rest))) : W p l e R s m args below meth c H locs cells slots Q (F0 m pc ls (.int i0 :: .ref (t.2.1 0) :: rest)) := by
  subst e0
  exact kk_Ri (W.runV (As := [.int (nI a)]) (rest := rest) S (k_blendOf l t r x a b hV ha) (cwV 1 S.2.2.2.2 (lw_V q1515 q1517 qs80 q117 q1518) rfl rfl rfl (by decide +kernel) ⟨hR.1, by have := hR.2.1; show 8 + (4 + 11) + 38 * 3 ≤ R.locals; omega⟩) ⟨m_blind, m_recv hK hP, m_pre hK hP⟩ rfl rfl hsz rfl (lv_room hrest) hdg ⟨hR.2.2.1, hR.2.2.2⟩) kk
end MC

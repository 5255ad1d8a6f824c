set_option maxHeartbeats 4000000 in
set_option maxRecDepth 100000 in
theorem k4_all (l : Launch) (t : CT) (r : Rw) (b : Nat) (hV : pV b r) : Met l yX4_all (ws_ yX4_all cX4_all 1 (some .int)) (rmF 0) (va_Pc [.ref (t.2.1 0)] (fun U => wK t U ∧ wW t r U.heap)) (kR (some (.int (nI (2 ^ pN r - 1))))) 0 0 (fun _ => False) := by
  refine kk_start (by decide) (Nat.le_of_ble_eq_true rfl) ?_
  intro p e s m below meth c S hr hlk hin hB ls hl
  obtain ⟨hK, hP⟩ := hB
  have hx := S.1
  have hb := S.2.1
  have hown : s.vm.findClass RX4 = some m.cls := S.2.2.2.1
  have hts := S.2.2.2.2
  have hl : lv_has ls 1 [(0, .ref (t.2.1 0))] := hl
  have hn := hV.n.1
  have hn8 := hV.n.2
  have h2n : 1 ≤ 2 ^ pN r := Nat.one_le_two_pow
  refine lv_iconst (v := 1) hx hb dX4_all_0 (by decide) ?_
  refine lv_aload_n hx hb dX4_all_1 rfl (lv_at hl 0 rfl) ?_
  refine wk_get S hK hP 3 (by decide) (hts _ q239) rfl rfl dX4_all_2 ?_
  refine lv_ishl hx hb dX4_all_5 ?_
  refine lv_iconst (v := 1) hx hb dX4_all_6 (by decide) ?_
  refine lv_isub hx hb dX4_all_7 ?_
  exact kk_iretR S hr hlk rfl rfl (by rw [hn, nn_shl1 _ (by omega)]; exact nn_sub rfl rfl h2n) dX4_all_8
set_option maxHeartbeats 4000000 in
set_option maxRecDepth 100000 in
theorem k4_cellars (l : Launch) (t : CT) (r : Rw) (b : Nat) (hV : pV b r) : Met l yX4_cellars (ws_ yX4_cellars cX4_cellars 3 (some .int)) (rmF 0) (va_Pc [.ref (t.2.1 0)] (fun U => wK t U ∧ wW t r U.heap)) (kR (some (.int (nI (p_used r))))) 0 0 (fun _ => False) := by
  refine kk_start (by decide) (Nat.le_of_ble_eq_true rfl) ?_
  intro p e s m below meth c S hr hlk hin hB ls hl
  obtain ⟨hK, hP⟩ := hB
  have hx := S.1
  have hb := S.2.1
  have hown : s.vm.findClass RX4 = some m.cls := S.2.2.2.1
  have hts := S.2.2.2.2
  have hl : lv_has ls 3 [(0, .ref (t.2.1 0))] := hl
  have hn := hV.n.1
  have hn8 := hV.n.2
  refine lv_iconst (v := 0) hx hb dX4_cellars_0 (by decide) ?_
  refine lv_istore_n (lv' := [(1, .int (0)), (0, .ref (t.2.1 0))]) hx hb dX4_cellars_1 rfl hl (by decide) rfl (fun ls hl => ?_)
  refine lv_iconst (v := 0) hx hb dX4_cellars_2 (by decide) ?_
  refine lv_istore_n (lv' := [(2, .int (0)), (1, .int (0)), (0, .ref (t.2.1 0))]) hx hb dX4_cellars_3 rfl hl (by decide) rfl (fun ls hl => ?_)
  have lp_4 : ∀ (j k : Nat) (a : Nat) (ls : Array Slot), k + j = pN r → ((lp (fun k a => a ||| 2 ^ pC r k) j k a) = p_used r) → lv_has ls 3 [(0, .ref (t.2.1 0)), (1, .int ((nI a))), (2, .int ((nI k)))] → W p l e (rmF 0) s m ([.ref (t.2.1 0)] : List Value).toArray below meth c s.heap [] 0 0 (MQ below (kR (some (.int (nI (p_used r))))) ([.ref (t.2.1 0)] : List Value).toArray s 0 0 (fun _ => False)) (F0 m 4 ls []) := by
    intro j
    induction j with
    | zero =>
      intro k a ls hkj he hl
      refine lv_iload_n hx hb dX4_cellars_4 rfl (lv_at hl 2 rfl) ?_
      refine lv_aload_n hx hb dX4_cellars_5 rfl (lv_at hl 0 rfl) ?_
      refine wk_get S hK hP 3 (by decide) (hts _ q239) rfl rfl dX4_cellars_6 ?_
      refine kb_ge_n (tgt := 31) (a := k) (b := (pN r)) S rfl hn (by omega) (by omega) dX4_cellars_9 (by decide) (fun c_9 => ?_) (fun c_9 => ?_)
      · skip
        refine lv_iload_n hx hb dX4_cellars_31 rfl (lv_at hl 1 rfl) ?_
        exact kk_iretR S hr hlk rfl rfl (by rw [← he]; rfl) dX4_cellars_32
      · exact absurd c_9 (by omega)
    | succ j ih =>
      intro k a ls hkj he hl
      have ih_4 := ih
      refine lv_iload_n hx hb dX4_cellars_4 rfl (lv_at hl 2 rfl) ?_
      refine lv_aload_n hx hb dX4_cellars_5 rfl (lv_at hl 0 rfl) ?_
      refine wk_get S hK hP 3 (by decide) (hts _ q239) rfl rfl dX4_cellars_6 ?_
      refine kb_ge_n (tgt := 31) (a := k) (b := (pN r)) S rfl hn (by omega) (by omega) dX4_cellars_9 (by decide) (fun c_9 => ?_) (fun c_9 => ?_)
      · exact absurd c_9 (by omega)
      · skip
        refine lv_iload_n hx hb dX4_cellars_12 rfl (lv_at hl 1 rfl) ?_
        refine lv_iconst (v := 1) hx hb dX4_cellars_13 (by decide) ?_
        refine lv_aload_n hx hb dX4_cellars_14 rfl (lv_at hl 0 rfl) ?_
        refine wk_get S hK hP 4 (by decide) (hts _ q242) rfl rfl dX4_cellars_15 ?_
        refine lv_iconst (v := 1) hx hb dX4_cellars_18 (by decide) ?_
        refine wk_aald S hK hP (1) (by omega) rfl dX4_cellars_19 ?_
        refine lv_iload_n hx hb dX4_cellars_20 rfl (lv_at hl 2 rfl) ?_
        refine wk_ldc S hK hP (1) (by omega) (k) (by omega) rfl dX4_cellars_21 ?_
        refine lv_ishl hx hb dX4_cellars_22 ?_
        refine lv_ior hx hb dX4_cellars_23 ?_
        refine kb_nat (y := nI ((a ||| (2 ^ pC r k)))) (nn_or rfl ((congrArg (fun z => (1 : Int32) <<< (z &&& 31)) (hV.c (show k < 8 by omega)).1).trans (nn_shl1 _ (by have := (hV.c (show k < 8 by omega)).2; omega)))) ?_
        refine lv_istore_n (lv' := [(1, .int ((nI (a ||| (2 ^ pC r k))))), (0, .ref (t.2.1 0)), (2, .int ((nI k)))]) hx hb dX4_cellars_24 rfl hl (by decide) rfl (fun ls hl => ?_)
        refine lv_iinc (v := (nI (k + 1))) (lv' := [(2, .int ((nI (k + 1)))), (1, .int ((nI (a ||| (2 ^ pC r k))))), (0, .ref (t.2.1 0))]) hx hb dX4_cellars_25 hl (k := 2) rfl (nn_1 rfl) (by decide) rfl (fun ls hl => ?_)
        refine lv_goto (tgt := 4) hx hb dX4_cellars_28 (by decide) ?_
        exact ih_4 ((k + 1)) ((a ||| (2 ^ pC r k))) ls (by omega) (by have h := he; simp only [lp] at h; exact h) (lv_sub hl [2, 1, 0] rfl)
  exact lp_4 (pN r) 0 (0) ls (by omega) (rfl) (lv_sub hl [2, 1, 0] rfl)
set_option maxHeartbeats 4000000 in
set_option maxRecDepth 100000 in
theorem k4_sumOf (l : Launch) (t : CT) (r : Rw) (w : Nat) (b : Nat) (hV : pV b r) (hw : w < 7) : Met l yX4_sumOf (ws_ yX4_sumOf cX4_sumOf 4 (some .int)) (rmF 0) (va_Pc [.ref (t.2.1 0), .int (nI w)] (fun U => wK t U ∧ wW t r U.heap)) (kR (some (.int (p_sum r w)))) 0 0 (fun _ => False) := by
  refine kk_start (by decide) (Nat.le_of_ble_eq_true rfl) ?_
  intro p e s m below meth c S hr hlk hin hB ls hl
  obtain ⟨hK, hP⟩ := hB
  have hx := S.1
  have hb := S.2.1
  have hown : s.vm.findClass RX4 = some m.cls := S.2.2.2.1
  have hts := S.2.2.2.2
  have hl : lv_has ls 4 [(0, .ref (t.2.1 0)), (1, .int ((nI w)))] := hl
  have hn := hV.n.1
  have hn8 := hV.n.2
  refine lv_iconst (v := 0) hx hb dX4_sumOf_0 (by decide) ?_
  refine lv_istore_n (lv' := [(2, .int (0)), (0, .ref (t.2.1 0)), (1, .int ((nI w)))]) hx hb dX4_sumOf_1 rfl hl (by decide) rfl (fun ls hl => ?_)
  refine lv_iconst (v := 0) hx hb dX4_sumOf_2 (by decide) ?_
  refine lv_istore_n (lv' := [(3, .int (0)), (2, .int (0)), (0, .ref (t.2.1 0)), (1, .int ((nI w)))]) hx hb dX4_sumOf_3 rfl hl (by decide) rfl (fun ls hl => ?_)
  have lp_4 : ∀ (j k : Nat) (a : Int32) (ls : Array Slot), k + j = pN r → (lp (fun k a => a + (if w = 7 then p_loud r k else r (16 + 7 * k + w))) j k a = p_sum r w) → lv_has ls 4 [(0, .ref (t.2.1 0)), (1, .int ((nI w))), (2, .int (a)), (3, .int ((nI k)))] → W p l e (rmF 0) s m ([.ref (t.2.1 0), .int (nI w)] : List Value).toArray below meth c s.heap [] 0 0 (MQ below (kR (some (.int (p_sum r w)))) ([.ref (t.2.1 0), .int (nI w)] : List Value).toArray s 0 0 (fun _ => False)) (F0 m 4 ls []) := by
    intro j
    induction j with
    | zero =>
      intro k a ls hkj he hl
      refine lv_iload_n hx hb dX4_sumOf_4 rfl (lv_at hl 3 rfl) ?_
      refine lv_aload_n hx hb dX4_sumOf_5 rfl (lv_at hl 0 rfl) ?_
      refine wk_get S hK hP 3 (by decide) (hts _ q239) rfl rfl dX4_sumOf_6 ?_
      refine kb_ge_n (tgt := 29) (a := k) (b := (pN r)) S rfl hn (by omega) (by omega) dX4_sumOf_9 (by decide) (fun c_9 => ?_) (fun c_9 => ?_)
      · skip
        refine lv_iload_n hx hb dX4_sumOf_29 rfl (lv_at hl 2 rfl) ?_
        exact kk_iretR S hr hlk rfl rfl (by rw [← he]; rfl) dX4_sumOf_30
      · exact absurd c_9 (by omega)
    | succ j ih =>
      intro k a ls hkj he hl
      have ih_4 := ih
      refine lv_iload_n hx hb dX4_sumOf_4 rfl (lv_at hl 3 rfl) ?_
      refine lv_aload_n hx hb dX4_sumOf_5 rfl (lv_at hl 0 rfl) ?_
      refine wk_get S hK hP 3 (by decide) (hts _ q239) rfl rfl dX4_sumOf_6 ?_
      refine kb_ge_n (tgt := 29) (a := k) (b := (pN r)) S rfl hn (by omega) (by omega) dX4_sumOf_9 (by decide) (fun c_9 => ?_) (fun c_9 => ?_)
      · exact absurd c_9 (by omega)
      · skip
        refine lv_iload_n hx hb dX4_sumOf_12 rfl (lv_at hl 2 rfl) ?_
        refine lv_aload_n hx hb dX4_sumOf_13 rfl (lv_at hl 0 rfl) ?_
        refine wk_get S hK hP 4 (by decide) (hts _ q242) rfl rfl dX4_sumOf_14 ?_
        refine lv_iload_n hx hb dX4_sumOf_17 rfl (lv_at hl 1 rfl) ?_
        refine wk_aald S hK hP (w) (by omega) rfl dX4_sumOf_18 ?_
        refine lv_iload_n hx hb dX4_sumOf_19 rfl (lv_at hl 3 rfl) ?_
        refine wk_ldc S hK hP (w) (by omega) (k) (by omega) rfl dX4_sumOf_20 ?_
        refine lv_iadd hx hb dX4_sumOf_21 ?_
        refine lv_istore_n (lv' := [(2, .int ((a + r (16 + 7 * k + w)))), (0, .ref (t.2.1 0)), (1, .int ((nI w))), (3, .int ((nI k)))]) hx hb dX4_sumOf_22 rfl hl (by decide) rfl (fun ls hl => ?_)
        refine lv_iinc (v := (nI (k + 1))) (lv' := [(3, .int ((nI (k + 1)))), (2, .int ((a + r (16 + 7 * k + w)))), (0, .ref (t.2.1 0)), (1, .int ((nI w)))]) hx hb dX4_sumOf_23 hl (k := 3) rfl (nn_1 rfl) (by decide) rfl (fun ls hl => ?_)
        refine lv_goto (tgt := 4) hx hb dX4_sumOf_26 (by decide) ?_
        exact ih_4 ((k + 1)) _ ls (by omega) (by have h := he; simp only [lp] at h; rw [if_neg (by omega)] at h; exact h) (lv_sub hl [2, 3, 1, 0] rfl)
  exact lp_4 (pN r) 0 _ ls (by omega) (rfl) (lv_sub hl [2, 3, 1, 0] rfl)
set_option maxHeartbeats 4000000 in
set_option maxRecDepth 100000 in
theorem k4_isLate (l : Launch) (t : CT) (r : Rw) (n : Nat) (b : Nat) (hV : pV b r) (hb : b ≤ 99999) (hn1 : n ≤ 60) : Met l yX4_isLate (ws_ yX4_isLate cX4_isLate 2 (some .boolean)) (rmF 0) (va_Pc [.ref (t.2.1 0), .int (nI n)] (fun U => wK t U ∧ wW t r U.heap)) (kR (some (.int (b2i (99999 < pD r + n))))) 0 0 (fun _ => False) := by
  refine kk_start (by decide) (Nat.le_of_ble_eq_true rfl) ?_
  intro p e s m below meth c S hr hlk hin hB ls hl
  obtain ⟨hK, hP⟩ := hB
  have hx := S.1
  have hb := S.2.1
  have hown : s.vm.findClass RX4 = some m.cls := S.2.2.2.1
  have hts := S.2.2.2.2
  have hl : lv_has ls 2 [(0, .ref (t.2.1 0)), (1, .int ((nI n)))] := hl
  have hn := hV.n.1
  have hn8 := hV.n.2
  have hd := (hV.d (by omega)).1
  have hdb := (hV.d (by omega)).2
  refine lv_aload_n hx hb dX4_isLate_0 rfl (lv_at hl 0 rfl) ?_
  refine wk_get S hK hP 5 (by decide) (hts _ q246) rfl rfl dX4_isLate_1 ?_
  refine lv_iload_n hx hb dX4_isLate_4 rfl (lv_at hl 1 rfl) ?_
  refine lv_iadd hx hb dX4_isLate_5 ?_
  refine lv_ldc (v := 99999) hx hb hown (hts _ q699) dX4_isLate_6 ?_
  refine kb_le_n (tgt := 15) (a := ((pD r) + n)) (b := 99999) S (nn_add hd rfl) rfl (by omega) (by omega) dX4_isLate_8 (by decide) (fun c_8 => ?_) (fun c_8 => ?_)
  · skip
    refine lv_iconst (v := 0) hx hb dX4_isLate_15 (by decide) ?_
    exact kk_zfR S hr hlk rfl rfl (by omega) dX4_isLate_16
  · skip
    refine lv_iconst (v := 1) hx hb dX4_isLate_11 (by decide) ?_
    refine lv_goto (tgt := 16) hx hb dX4_isLate_12 (by decide) ?_
    exact kk_ztR S hr hlk rfl rfl (by omega) dX4_isLate_16
set_option maxHeartbeats 4000000 in
set_option maxRecDepth 100000 in
theorem k4_draw (l : Launch) (t : CT) (r : Rw) : Met l yX4_draw (ws_ yX4_draw cX4_draw 1 (some .int)) (rmF 0) (va_Pc [.ref (t.2.1 0)] (fun U => wK t U ∧ wW t r U.heap)) (kW (some (.int (nI (p_dN r)))) (wW t (p_draw r)) (wA t)) 0 0 (wA t) := by
  refine kk_start (by decide) (Nat.le_of_ble_eq_true rfl) ?_
  intro p e s m below meth c S hr hlk hin hB ls hl
  obtain ⟨hK, hP⟩ := hB
  have hx := S.1
  have hb := S.2.1
  have hown : s.vm.findClass RX4 = some m.cls := S.2.2.2.1
  have hts := S.2.2.2.2
  have hS : va_S (wA t) s.heap s.heap [] := va_S.rf
  have hl : lv_has ls 1 [(0, .ref (t.2.1 0))] := hl
  refine lv_aload_n hx hb dX4_draw_0 rfl (lv_at hl 0 rfl) ?_
  refine lv_aload_n hx hb dX4_draw_1 rfl (lv_at hl 0 rfl) ?_
  refine wk_get S hK hP 6 (by decide) (hts _ q248) rfl rfl dX4_draw_2 ?_
  refine lv_ldc (v := 1103515245) hx hb hown (hts _ q997) dX4_draw_5 ?_
  refine lv_imul hx hb dX4_draw_7 ?_
  refine lv_sipush (v := 12345) hx hb dX4_draw_8 (by decide) ?_
  refine lv_iadd hx hb dX4_draw_11 ?_
  refine wk_put S hK hP hS (fun _ h => h) 6 2 (by decide) (by decide) (hts _ q248) rfl rfl rfl (wF_z _ _ _) dX4_draw_12 (fun H locs hP _ hS => ?_)
  refine lv_aload_n hx hb dX4_draw_15 rfl (lv_at hl 0 rfl) ?_
  refine wk_get S hK hP 6 (by decide) (hts _ q248) rfl rfl dX4_draw_16 ?_
  refine lv_bipush (v := 8) hx hb dX4_draw_19 (by decide) ?_
  refine lv_iushr hx hb dX4_draw_21 rfl ?_
  exact kk_iretW S hr hlk hS (hP) (ushr8 _) dX4_draw_22
set_option maxHeartbeats 4000000 in
set_option maxRecDepth 100000 in
theorem k4_add (l : Launch) (t : CT) (r : Rw) (i : Int32) (v : Int32) (b : Nat) (hV : pV b r) (h8 : pN r < 8) : Met l yX4_add (ws_ yX4_add cX4_add 4 none) (rmF 0) (va_Pc [.ref (t.2.1 0), .int i, .int v] (fun U => wK t U ∧ wW t r U.heap)) (kW none (wW t (p_comes r i v)) (wA t)) 0 0 (wA t) := by
  refine kk_start (by decide) (Nat.le_of_ble_eq_true rfl) ?_
  intro p e s m below meth c S hr hlk hin hB ls hl
  obtain ⟨hK, hP⟩ := hB
  have hx := S.1
  have hb := S.2.1
  have hown : s.vm.findClass RX4 = some m.cls := S.2.2.2.1
  have hts := S.2.2.2.2
  have hS : va_S (wA t) s.heap s.heap [] := va_S.rf
  have hl : lv_has ls 4 [(0, .ref (t.2.1 0)), (1, .int (i)), (2, .int (v))] := hl
  have hn := hV.n.1
  have hn8 := hV.n.2
  refine lv_iconst (v := 0) hx hb dX4_add_0 (by decide) ?_
  refine lv_istore_n (lv' := [(3, .int (0)), (0, .ref (t.2.1 0)), (1, .int (i)), (2, .int (v))]) hx hb dX4_add_1 rfl hl (by decide) rfl (fun ls hl => ?_)
  have lp_2 : ∀ (j w : Nat) (r1 : Rw) (H : Heap) (locs : List Loc) (ls : Array Slot), w + j = 7 → (r1 = p_zero r (pN r) w) → wW t (r1) H → va_S (wA t) s.heap H locs → lv_has ls 4 [(0, .ref (t.2.1 0)), (1, .int (i)), (2, .int (v)), (3, .int ((nI w)))] → W p l e (rmF 0) s m ([.ref (t.2.1 0), .int i, .int v] : List Value).toArray below meth c H locs 0 0 (MQ below (kW none (wW t (p_comes r i v)) (wA t)) ([.ref (t.2.1 0), .int i, .int v] : List Value).toArray s 0 0 (wA t)) (F0 m 2 ls []) := by
    intro j
    induction j with
    | zero =>
      intro w  r1 H locs ls hkj he hP hS hl
      refine lv_iload_n hx hb dX4_add_2 rfl (lv_at hl 3 rfl) ?_
      refine lv_bipush (v := 7) hx hb dX4_add_3 (by decide) ?_
      refine kb_ge_n (tgt := 26) (a := w) (b := 7) S rfl rfl (by omega) (by omega) dX4_add_5 (by decide) (fun c_5 => ?_) (fun c_5 => ?_)
      · skip
        subst he
        have hw7 : w = 7 := by omega
        subst hw7
        refine lv_aload_n hx hb dX4_add_26 rfl (lv_at hl 0 rfl) ?_
        refine wk_get S hK hP 4 (by decide) (hts _ q242) rfl rfl dX4_add_27 ?_
        refine lv_iconst (v := 0) hx hb dX4_add_30 (by decide) ?_
        refine wk_aald S hK hP (0) (by omega) rfl dX4_add_31 ?_
        refine lv_aload_n hx hb dX4_add_32 rfl (lv_at hl 0 rfl) ?_
        refine wk_get S hK hP 3 (by decide) (hts _ q239) rfl rfl dX4_add_33 ?_
        refine lv_iload_n hx hb dX4_add_36 rfl (lv_at hl 1 rfl) ?_
        refine wk_stc S hK hP hS (fun _ h => h) (0) (by omega) ((pN r)) (by omega) (by (repeat rw [up_n (by omega)]); rw [p_zero_0]; exact hn) dX4_add_37 (fun H locs hP _ hS => ?_)
        refine lv_aload_n hx hb dX4_add_38 rfl (lv_at hl 0 rfl) ?_
        refine wk_get S hK hP 4 (by decide) (hts _ q242) rfl rfl dX4_add_39 ?_
        refine lv_iconst (v := 1) hx hb dX4_add_42 (by decide) ?_
        refine wk_aald S hK hP (1) (by omega) rfl dX4_add_43 ?_
        refine lv_aload_n hx hb dX4_add_44 rfl (lv_at hl 0 rfl) ?_
        refine wk_get S hK hP 3 (by decide) (hts _ q239) rfl rfl dX4_add_45 ?_
        refine lv_iload_n hx hb dX4_add_48 rfl (lv_at hl 2 rfl) ?_
        refine wk_stc S hK hP hS (fun _ h => h) (1) (by omega) ((pN r)) (by omega) (by (repeat rw [up_n (by omega)]); rw [p_zero_0]; exact hn) dX4_add_49 (fun H locs hP _ hS => ?_)
        refine lv_aload_n hx hb dX4_add_50 rfl (lv_at hl 0 rfl) ?_
        refine wk_get S hK hP 4 (by decide) (hts _ q242) rfl rfl dX4_add_51 ?_
        refine lv_iconst (v := 4) hx hb dX4_add_54 (by decide) ?_
        refine wk_aald S hK hP (4) (by omega) rfl dX4_add_55 ?_
        refine lv_aload_n hx hb dX4_add_56 rfl (lv_at hl 0 rfl) ?_
        refine wk_get S hK hP 3 (by decide) (hts _ q239) rfl rfl dX4_add_57 ?_
        refine lv_bipush (v := 100) hx hb dX4_add_60 (by decide) ?_
        refine wk_stc S hK hP hS (fun _ h => h) (4) (by omega) ((pN r)) (by omega) (by (repeat rw [up_n (by omega)]); rw [p_zero_0]; exact hn) dX4_add_62 (fun H locs hP _ hS => ?_)
        refine lv_aload_n hx hb dX4_add_63 rfl (lv_at hl 0 rfl) ?_
        refine lv_dup hx hb dX4_add_64 rfl ?_
        refine wk_get S hK hP 3 (by decide) (hts _ q239) rfl rfl dX4_add_65 ?_
        refine lv_iconst (v := 1) hx hb dX4_add_68 (by decide) ?_
        refine lv_iadd hx hb dX4_add_69 ?_
        refine kb_nat (y := nI (((pN r) + 1))) (nn_add (by (repeat rw [up_n (by omega)]); rw [p_zero_0]; exact hn) rfl) ?_
        refine wk_put S hK hP hS (fun _ h => h) 3 0 (by decide) (by decide) (hts _ q239) rfl rfl rfl (wF_casks _ _ _) dX4_add_70 (fun H locs hP _ hS => ?_)
        exact kk_vretW S hr hlk hS (by rw [← p_comes_eq r i v h8, show r 0 + 1 = nI (pN r + 1) from nn_1 hn]; exact hP) dX4_add_73
      · exact absurd c_5 (by omega)
    | succ j ih =>
      intro w  r1 H locs ls hkj he hP hS hl
      have ih_2 := ih
      refine lv_iload_n hx hb dX4_add_2 rfl (lv_at hl 3 rfl) ?_
      refine lv_bipush (v := 7) hx hb dX4_add_3 (by decide) ?_
      refine kb_ge_n (tgt := 26) (a := w) (b := 7) S rfl rfl (by omega) (by omega) dX4_add_5 (by decide) (fun c_5 => ?_) (fun c_5 => ?_)
      · exact absurd c_5 (by omega)
      · skip
        refine lv_aload_n hx hb dX4_add_8 rfl (lv_at hl 0 rfl) ?_
        refine wk_get S hK hP 4 (by decide) (hts _ q242) rfl rfl dX4_add_9 ?_
        refine lv_iload_n hx hb dX4_add_12 rfl (lv_at hl 3 rfl) ?_
        refine wk_aald S hK hP (w) (by omega) rfl dX4_add_13 ?_
        refine lv_aload_n hx hb dX4_add_14 rfl (lv_at hl 0 rfl) ?_
        refine wk_get S hK hP 3 (by decide) (hts _ q239) rfl rfl dX4_add_15 ?_
        refine lv_iconst (v := 0) hx hb dX4_add_18 (by decide) ?_
        refine wk_stc S hK hP hS (fun _ h => h) (w) (by omega) ((pN r)) (by omega) (by rw [he, p_zero_0]; exact hn) dX4_add_19 (fun H locs hP _ hS => ?_)
        refine lv_iinc (v := (nI (w + 1))) (lv' := [(3, .int ((nI (w + 1)))), (0, .ref (t.2.1 0)), (1, .int (i)), (2, .int (v))]) hx hb dX4_add_20 hl (k := 3) rfl (nn_1 rfl) (by decide) rfl (fun ls hl => ?_)
        refine lv_goto (tgt := 2) hx hb dX4_add_23 (by decide) ?_
        exact ih_2 ((w + 1)) _ _ _ ls (by omega) (by rw [he]; rfl) hP hS (lv_sub hl [1, 2, 3, 0] rfl)
  exact lp_2 7 0 _ _ _ ls (by omega) (rfl) hP hS (lv_sub hl [1, 2, 3, 0] rfl)
section WC
variable {p : Program} {l : Launch} {e : Env} {R : Room} {s : State} {m : MethodId} {args : Array Value} {below : List Frame} {meth : Method} {c : Code} {H H0 : Heap} {locs : List Loc} {cells slots : Nat} {Q : State → Prop}
variable {cc : ByteArray} {pc nL : Nat} {ls : Array Slot} {rest : List Value} {t : CT} {r : Rw} {A : Nat → Prop}
theorem c0_all (S : CallFix p m c cc nL s args lw_all RX0) (hK : wK t s) (hP : wW t r H) (hR : kRm R 1 cells slots) (hsz : ls.size = nL) (b : Nat) (hV : pV b r) (hrest : (rest.map fun v => v.category).sum ≤ 8) (hdg : decode cc pc = .ok (.invokevirtual 212, 3)) (kk : W p l e R s m args below meth c H locs cells slots Q (F0 m (pc + 3) ls (.int (nI (2 ^ pN r - 1)) :: rest))) : W p l e R s m args below meth c H locs cells slots Q (F0 m pc ls (.ref (t.2.1 0) :: rest)) := by
  exact kk_Ri (W.runV (As := []) (rest := rest) S (k4_all l t r b hV) (cwV 0 S.2.2.2.2 (lw_V q779 q780 q781 q108 q782) rfl rfl rfl (by decide +kernel) ⟨hR.1, by have := hR.2.1; show 8 + (1 + 11) + 38 * 0 ≤ R.locals; omega⟩) ⟨w_blind, w_recv hK hP, w_pre hK hP⟩ rfl rfl hsz rfl (lv_room hrest) hdg ⟨hR.2.2.1, hR.2.2.2⟩) kk
theorem c0_cellars (S : CallFix p m c cc nL s args lw_all RX0) (hK : wK t s) (hP : wW t r H) (hR : kRm R 1 cells slots) (hsz : ls.size = nL) (b : Nat) (hV : pV b r) (hrest : (rest.map fun v => v.category).sum ≤ 8) (hdg : decode cc pc = .ok (.invokevirtual 224, 3)) (kk : W p l e R s m args below meth c H locs cells slots Q (F0 m (pc + 3) ls (.int (nI (p_used r)) :: rest))) : W p l e R s m args below meth c H locs cells slots Q (F0 m pc ls (.ref (t.2.1 0) :: rest)) := by
  exact kk_Ri (W.runV (As := []) (rest := rest) S (k4_cellars l t r b hV) (cwV 0 S.2.2.2.2 (lw_V q798 q799 q800 q108 q801) rfl rfl rfl (by decide +kernel) ⟨hR.1, by have := hR.2.1; show 8 + (3 + 11) + 38 * 0 ≤ R.locals; omega⟩) ⟨w_blind, w_recv hK hP, w_pre hK hP⟩ rfl rfl hsz rfl (lv_room hrest) hdg ⟨hR.2.2.1, hR.2.2.2⟩) kk
theorem c0_sumOf (S : CallFix p m c cc nL s args lw_all RX0) (hK : wK t s) (hP : wW t r H) (hR : kRm R 1 cells slots) (hsz : ls.size = nL) (w : Nat) (b : Nat) (hV : pV b r) (hw : w < 7) {i0 : Int32} (e0 : i0 = nI w) (hrest : (rest.map fun v => v.category).sum ≤ 8) (hdg : decode cc pc = .ok (.invokevirtual 209, 3)) (kk : W p l e R s m args below meth c H locs cells slots Q (F0 m (pc + 3) ls (.int (p_sum r w) :: rest))) : W p l e R s m args below meth c H locs cells slots Q (F0 m pc ls (.int i0 :: .ref (t.2.1 0) :: rest)) := by
  subst e0
  exact kk_Ri (W.runV (As := [.int (nI w)]) (rest := rest) S (k4_sumOf l t r w b hV hw) (cwV 1 S.2.2.2.2 (lw_V q775 q776 q777 q108 q778) rfl rfl rfl (by decide +kernel) ⟨hR.1, by have := hR.2.1; show 8 + (4 + 11) + 38 * 0 ≤ R.locals; omega⟩) ⟨w_blind, w_recv hK hP, w_pre hK hP⟩ rfl rfl hsz rfl (lv_room hrest) hdg ⟨hR.2.2.1, hR.2.2.2⟩) kk
theorem c0_isLate (S : CallFix p m c cc nL s args lw_all RX0) (hK : wK t s) (hP : wW t r H) (hR : kRm R 1 cells slots) (hsz : ls.size = nL) (n : Nat) (b : Nat) (hV : pV b r) (hb : b ≤ 99999) (hn1 : n ≤ 60) {i0 : Int32} (e0 : i0 = nI n) (hrest : (rest.map fun v => v.category).sum ≤ 8) (hdg : decode cc pc = .ok (.invokevirtual 200, 3)) (kk : W p l e R s m args below meth c H locs cells slots Q (F0 m (pc + 3) ls (.int (b2i (99999 < pD r + n)) :: rest))) : W p l e R s m args below meth c H locs cells slots Q (F0 m pc ls (.int i0 :: .ref (t.2.1 0) :: rest)) := by
  subst e0
  exact kk_Ri (W.runV (As := [.int (nI n)]) (rest := rest) S (k4_isLate l t r n b hV hb hn1) (cwV 1 S.2.2.2.2 (lw_V q695 q696 q697 q108 q698) rfl rfl rfl (by decide +kernel) ⟨hR.1, by have := hR.2.1; show 8 + (2 + 11) + 38 * 0 ≤ R.locals; omega⟩) ⟨w_blind, w_recv hK hP, w_pre hK hP⟩ rfl rfl hsz rfl (lv_room hrest) hdg ⟨hR.2.2.1, hR.2.2.2⟩) kk
theorem c0_draw (S : CallFix p m c cc nL s args lw_all RX0) (hK : wK t s) (hP : wW t r H) (hS : va_S A H0 H locs) (hA : ∀ q, wA t q → A q) (hR : kRm R 1 cells slots) (hsz : ls.size = nL) (hrest : (rest.map fun v => v.category).sum ≤ 8) (hdg : decode cc pc = .ok (.invokevirtual 323, 3)) (kk : ∀ (H1 : Heap) (locs1 : List Loc), wW t (p_draw r) H1 → H.size ≤ H1.size → (∀ q : Nat, q < H.size → ¬ wA t q → H1[q]? = H[q]?) → va_S A H0 H1 locs1 → W p l e R s m args below meth c H1 locs1 cells slots Q (F0 m (pc + 3) ls (.int (nI (p_dN r)) :: rest))) : W p l e R s m args below meth c H locs cells slots Q (F0 m pc ls (.ref (t.2.1 0) :: rest)) := by
  exact kk_Wi (W.runV (As := []) (rest := rest) S (k4_draw l t r) (cwV 0 S.2.2.2.2 (lw_V q993 q994 q995 q108 q996) rfl rfl rfl (by decide +kernel) ⟨hR.1, by have := hR.2.1; show 8 + (1 + 11) + 38 * 0 ≤ R.locals; omega⟩) ⟨w_blind, w_recv hK hP, w_pre hK hP⟩ rfl rfl hsz rfl (lv_room hrest) hdg ⟨hR.2.2.1, hR.2.2.2⟩) hS hA hA kk
theorem c0_add (S : CallFix p m c cc nL s args lw_all RX0) (hK : wK t s) (hP : wW t r H) (hS : va_S A H0 H locs) (hA : ∀ q, wA t q → A q) (hR : kRm R 1 cells slots) (hsz : ls.size = nL) {i : Int32} {v : Int32} (b : Nat) (hV : pV b r) (h8 : pN r < 8) (hrest : (rest.map fun v => v.category).sum ≤ 8) (hdg : decode cc pc = .ok (.invokevirtual 174, 3)) (kk : ∀ (H1 : Heap) (locs1 : List Loc), wW t (p_comes r i v) H1 → H.size ≤ H1.size → (∀ q : Nat, q < H.size → ¬ wA t q → H1[q]? = H[q]?) → va_S A H0 H1 locs1 → W p l e R s m args below meth c H1 locs1 cells slots Q (F0 m (pc + 3) ls (rest))) : W p l e R s m args below meth c H locs cells slots Q (F0 m pc ls (.int v :: .int i :: .ref (t.2.1 0) :: rest)) := by
  exact kk_Wv (W.runV (As := [.int i, .int v]) (rest := rest) S (k4_add l t r i v b hV h8) (cwV 2 S.2.2.2.2 (lw_V q487 q488 q489 q108 q490) rfl rfl rfl (by decide +kernel) ⟨hR.1, by have := hR.2.1; show 8 + (4 + 11) + 38 * 0 ≤ R.locals; omega⟩) ⟨w_blind, w_recv hK hP, w_pre hK hP⟩ rfl rfl hsz rfl (lv_room hrest) hdg ⟨hR.2.2.1, hR.2.2.2⟩) hS hA hA kk
theorem c2_add (S : CallFix p m c cc nL s args lw_all RX2) (hK : wK t s) (hP : wW t r H) (hS : va_S A H0 H locs) (hA : ∀ q, wA t q → A q) (hR : kRm R 1 cells slots) (hsz : ls.size = nL) {i : Int32} {v : Int32} (b : Nat) (hV : pV b r) (h8 : pN r < 8) (hrest : (rest.map fun v => v.category).sum ≤ 8) (hdg : decode cc pc = .ok (.invokevirtual 102, 3)) (kk : ∀ (H1 : Heap) (locs1 : List Loc), wW t (p_comes r i v) H1 → H.size ≤ H1.size → (∀ q : Nat, q < H.size → ¬ wA t q → H1[q]? = H[q]?) → va_S A H0 H1 locs1 → W p l e R s m args below meth c H1 locs1 cells slots Q (F0 m (pc + 3) ls (rest))) : W p l e R s m args below meth c H locs cells slots Q (F0 m pc ls (.int v :: .int i :: .ref (t.2.1 0) :: rest)) := by
  exact kk_Wv (W.runV (As := [.int i, .int v]) (rest := rest) S (k4_add l t r i v b hV h8) (cwV 2 S.2.2.2.2 (lw_V q1126 q488 q489 q108 q490) rfl rfl rfl (by decide +kernel) ⟨hR.1, by have := hR.2.1; show 8 + (4 + 11) + 38 * 0 ≤ R.locals; omega⟩) ⟨w_blind, w_recv hK hP, w_pre hK hP⟩ rfl rfl hsz rfl (lv_room hrest) hdg ⟨hR.2.2.1, hR.2.2.2⟩) hS hA hA kk
end WC
set_option maxHeartbeats 4000000 in
set_option maxRecDepth 100000 in
theorem k4_storms (l : Launch) (t : CT) (r : Rw) (b : Nat) (hV : pV b r) (hb : b < 2 ^ 30) : Met l yX4_storms (ws_ yX4_storms cX4_storms 3 none) (rmF 2) (va_Pc [.ref (t.2.1 0)] (fun U => wK t U ∧ wW t r U.heap)) (kW none (wW t (p_s0 r)) (wA t)) 0 0 (wA t) := by
  refine kk_start (by decide) (Nat.le_of_ble_eq_true rfl) ?_
  intro p e s m below meth c S hr hlk hin hB ls hl
  obtain ⟨hK, hP⟩ := hB
  have hx := S.1
  have hb := S.2.1
  have hown : s.vm.findClass RX4 = some m.cls := S.2.2.2.1
  have hts := S.2.2.2.2
  have hS : va_S (wA t) s.heap s.heap [] := va_S.rf
  have hl : lv_has ls 3 [(0, .ref (t.2.1 0))] := hl
  have hn := hV.n.1
  have hn8 := hV.n.2
  have hd := (hV.d (by omega)).1
  have hdb := (hV.d (by omega)).2
  refine lv_aload_n hx hb dX4_storms_0 rfl (lv_at hl 0 rfl) ?_
  refine wk_get S hK hP 5 (by decide) (hts _ q246) rfl rfl dX4_storms_1 ?_
  refine lv_bipush (v := 6) hx hb dX4_storms_4 (by decide) ?_
  refine lv_irem hx hb dX4_storms_6 (by decide) ?_
  refine kb_nat (y := nI ((pD r % 6))) (by rw [hd]; exact pk_rem (by omega) (by decide) (by decide)) ?_
  refine lv_istore_n (lv' := [(1, .int ((nI (pD r % 6)))), (0, .ref (t.2.1 0))]) hx hb dX4_storms_7 rfl hl (by decide) rfl (fun ls hl => ?_)
  refine lv_aload_n hx hb dX4_storms_8 rfl (lv_at hl 1 rfl) ?_
  refine lv_iload_n hx hb dX4_storms_9 rfl (lv_at hl 0 rfl) ?_
  refine c4_emptiest S hK hP (rm_ok (Nat.le_of_ble_eq_true rfl)) hl.1 (b) hV (Nat.le_of_ble_eq_true rfl) dX4_storms_10 ?_
  refine kb_topo (fun o_1 eo_1 => ?_)
  have hb8 : ∀ i, o_1 = some i → i < 8 := fun i h => p_emp_lt hV (eo_1 ▸ h)
  refine lv_istore_n (lv' := [(2, .int ((oi o_1))), (1, .int ((nI (pD r % 6)))), (0, .ref (t.2.1 0))]) hx hb dX4_storms_13 rfl hl (by decide) rfl (fun ls hl => ?_)
  refine lv_iload_n hx hb dX4_storms_14 rfl (lv_at hl 0 rfl) ?_
  refine lv_iconst (v := (-1)) hx hb dX4_storms_15 (by decide) ?_
  refine kb_eq_o (tgt := 30) S dX4_storms_16 (by decide) (fun c_16 => ?_) (fun c_16 => ?_) (fun i hi => Nat.lt_trans (hb8 i hi) (by decide))
  · skip
    subst c_16
    exact kk_vretW S hr hlk hS (by unfold p_s0; rw [← eo_1]; exact hP) dX4_storms_30
  · skip
    obtain ⟨o_1_16, rfl⟩ := c_16
    have ho_1_16 := hb8 _ rfl
    refine lv_aload_n hx hb dX4_storms_19 rfl (lv_at hl 2 rfl) ?_
    refine lv_iload_n hx hb dX4_storms_20 rfl (lv_at hl 0 rfl) ?_
    refine lv_aload_n hx hb dX4_storms_21 rfl (lv_at hl 2 rfl) ?_
    refine wk_get S hK hP 1 (by decide) (hts _ q234) rfl rfl dX4_storms_22 ?_
    refine lv_iload_n hx hb dX4_storms_25 rfl (lv_at hl 1 rfl) ?_
    refine wk_ldl S hK hP ((pD r % 6)) (by omega) rfl dX4_storms_26 ?_
    refine c4_peals S hK hP hS (fun _ h => h) (rm_ok (Nat.le_of_ble_eq_true rfl)) hl.1 (o_1_16) (by omega) (oi_some _) (Nat.le_of_ble_eq_true rfl) dX4_storms_27 (fun H locs hP _ _ hS => ?_)
    exact kk_vretW S hr hlk hS (by unfold p_s0; rw [← eo_1]; exact hP) dX4_storms_30
set_option maxHeartbeats 4000000 in
set_option maxRecDepth 100000 in
theorem k4_cancel (l : Launch) (t : CT) (r : Rw) (b : Nat) (hV : pV b r) : Met l yX4_cancel (ws_ yX4_cancel cX4_cancel 4 none) (rmF 1) (va_Pc [.ref (t.2.1 0)] (fun U => wK t U ∧ wW t r U.heap)) (kW none (wW t (p_cans (pN r) r)) (wA t)) 0 0 (wA t) := by
  refine kk_start (by decide) (Nat.le_of_ble_eq_true rfl) ?_
  intro p e s m below meth c S hr hlk hin hB ls hl
  obtain ⟨hK, hP⟩ := hB
  have hx := S.1
  have hb := S.2.1
  have hown : s.vm.findClass RX4 = some m.cls := S.2.2.2.1
  have hts := S.2.2.2.2
  have hS : va_S (wA t) s.heap s.heap [] := va_S.rf
  have hl : lv_has ls 4 [(0, .ref (t.2.1 0))] := hl
  have hn := hV.n.1
  have hn8 := hV.n.2
  refine lv_iconst (v := 0) hx hb dX4_cancel_0 (by decide) ?_
  refine lv_istore_n (lv' := [(1, .int (0)), (0, .ref (t.2.1 0))]) hx hb dX4_cancel_1 rfl hl (by decide) rfl (fun ls hl => ?_)
  have lp_2 : ∀ (j a : Nat) (r2 : Rw) (H : Heap) (locs : List Loc) (ls : Array Slot), a + j = pN r → (lp (fun a q => lp (fun b q => p_can q a b) (pN r - (a + 1)) (a + 1) q) j a r2 = p_cans (pN r) r) → (kp r r2) → wW t (r2) H → va_S (wA t) s.heap H locs → lv_has ls 4 [(0, .ref (t.2.1 0)), (1, .int ((nI a)))] → W p l e (rmF 1) s m ([.ref (t.2.1 0)] : List Value).toArray below meth c H locs 0 0 (MQ below (kW none (wW t (p_cans (pN r) r)) (wA t)) ([.ref (t.2.1 0)] : List Value).toArray s 0 0 (wA t)) (F0 m 2 ls []) := by
    intro j
    induction j with
    | zero =>
      intro a  r2 H locs ls hkj he hk2 hP hS hl
      refine lv_iload_n hx hb dX4_cancel_2 rfl (lv_at hl 1 rfl) ?_
      refine lv_aload_n hx hb dX4_cancel_3 rfl (lv_at hl 0 rfl) ?_
      refine wk_get S hK hP 3 (by decide) (hts _ q239) rfl rfl dX4_cancel_4 ?_
      refine kb_ge_n (tgt := 91) (a := a) (b := (pN r)) S rfl ((hk2 0 (by unfold pm; omega)).trans hn) (by omega) (by omega) dX4_cancel_7 (by decide) (fun c_7 => ?_) (fun c_7 => ?_)
      · skip
        exact kk_vretW S hr hlk hS (he ▸ hP) dX4_cancel_91
      · exact absurd c_7 (by omega)
    | succ j ih =>
      intro a  r2 H locs ls hkj he hk2 hP hS hl
      have ih_2 := ih
      refine lv_iload_n hx hb dX4_cancel_2 rfl (lv_at hl 1 rfl) ?_
      refine lv_aload_n hx hb dX4_cancel_3 rfl (lv_at hl 0 rfl) ?_
      refine wk_get S hK hP 3 (by decide) (hts _ q239) rfl rfl dX4_cancel_4 ?_
      refine kb_ge_n (tgt := 91) (a := a) (b := (pN r)) S rfl ((hk2 0 (by unfold pm; omega)).trans hn) (by omega) (by omega) dX4_cancel_7 (by decide) (fun c_7 => ?_) (fun c_7 => ?_)
      · exact absurd c_7 (by omega)
      · skip
        refine lv_iload_n hx hb dX4_cancel_10 rfl (lv_at hl 1 rfl) ?_
        refine lv_iconst (v := 1) hx hb dX4_cancel_11 (by decide) ?_
        refine lv_iadd hx hb dX4_cancel_12 ?_
        refine kb_nat (y := nI ((a + 1))) (nn_add rfl rfl) ?_
        refine lv_istore_n (lv' := [(2, .int ((nI (a + 1)))), (0, .ref (t.2.1 0)), (1, .int ((nI a)))]) hx hb dX4_cancel_13 rfl hl (by decide) rfl (fun ls hl => ?_)
        have lp_14 : ∀ (j bb : Nat) (r3 : Rw) (H : Heap) (locs : List Loc) (ls : Array Slot), bb + j = pN r → (lp (fun b q => p_can q a b) j bb r3 = lp (fun b q => p_can q a b) (pN r - (a + 1)) (a + 1) r2) → (kp r r3) → wW t (r3) H → va_S (wA t) s.heap H locs → lv_has ls 4 [(0, .ref (t.2.1 0)), (1, .int ((nI a))), (2, .int ((nI bb)))] → W p l e (rmF 1) s m ([.ref (t.2.1 0)] : List Value).toArray below meth c H locs 0 0 (MQ below (kW none (wW t (p_cans (pN r) r)) (wA t)) ([.ref (t.2.1 0)] : List Value).toArray s 0 0 (wA t)) (F0 m 14 ls []) := by
          intro j
          induction j with
          | zero =>
            intro bb  r3 H locs ls hkj he3 hk3 hP hS hl
            refine lv_iload_n hx hb dX4_cancel_14 rfl (lv_at hl 2 rfl) ?_
            refine lv_aload_n hx hb dX4_cancel_15 rfl (lv_at hl 0 rfl) ?_
            refine wk_get S hK hP 3 (by decide) (hts _ q239) rfl rfl dX4_cancel_16 ?_
            refine kb_ge_n (tgt := 85) (a := bb) (b := (pN r)) S rfl ((hk3 0 (by unfold pm; omega)).trans hn) (by omega) (by omega) dX4_cancel_19 (by decide) (fun c_19 => ?_) (fun c_19 => ?_)
            · skip
              have e3 : r3 = lp (fun b q => p_can q a b) (pN r - (a + 1)) (a + 1) r2 := he3
              refine lv_iinc (v := (nI (a + 1))) (lv' := [(1, .int ((nI (a + 1)))), (0, .ref (t.2.1 0)), (2, .int ((nI bb)))]) hx hb dX4_cancel_85 hl (k := 1) rfl (nn_1 rfl) (by decide) rfl (fun ls hl => ?_)
              refine lv_goto (tgt := 2) hx hb dX4_cancel_88 (by decide) ?_
              exact ih_2 ((a + 1)) _ _ _ ls (by omega) (by have h := he; rw [lp] at h; rw [e3]; exact h) (hk3) hP hS (lv_sub hl [1, 0] rfl)
            · exact absurd c_19 (by omega)
          | succ j ih =>
            intro bb  r3 H locs ls hkj he3 hk3 hP hS hl
            have ih_14 := ih
            refine lv_iload_n hx hb dX4_cancel_14 rfl (lv_at hl 2 rfl) ?_
            refine lv_aload_n hx hb dX4_cancel_15 rfl (lv_at hl 0 rfl) ?_
            refine wk_get S hK hP 3 (by decide) (hts _ q239) rfl rfl dX4_cancel_16 ?_
            refine kb_ge_n (tgt := 85) (a := bb) (b := (pN r)) S rfl ((hk3 0 (by unfold pm; omega)).trans hn) (by omega) (by omega) dX4_cancel_19 (by decide) (fun c_19 => ?_) (fun c_19 => ?_)
            · exact absurd c_19 (by omega)
            · skip
              refine lv_aload_n hx hb dX4_cancel_22 rfl (lv_at hl 0 rfl) ?_
              refine lv_iload_n hx hb dX4_cancel_23 rfl (lv_at hl 1 rfl) ?_
              refine lv_iload_n hx hb dX4_cancel_24 rfl (lv_at hl 2 rfl) ?_
              refine c4_areAlike S hK hP (rm_ok (Nat.le_of_ble_eq_true rfl)) hl.1 (a) (bb) (by omega) (by omega) rfl rfl (Nat.le_of_ble_eq_true rfl) dX4_cancel_25 ?_
              refine kb_ifeq (tgt := 53) S dX4_cancel_28 (by decide) (fun c_28 => ?_) (fun c_28 => ?_)
              · skip
                refine lv_iconst (v := 0) hx hb dX4_cancel_53 (by decide) ?_
                refine lv_istore_n (lv' := [(3, .int (0)), (0, .ref (t.2.1 0)), (1, .int ((nI a))), (2, .int ((nI bb)))]) hx hb dX4_cancel_54 rfl hl (by decide) rfl (fun ls hl => ?_)
                refine lv_aload_n hx hb dX4_cancel_55 rfl (lv_at hl 1 rfl) ?_
                refine wk_get S hK hP 4 (by decide) (hts _ q242) rfl rfl dX4_cancel_56 ?_
                refine lv_iconst (v := 2) hx hb dX4_cancel_59 (by decide) ?_
                refine wk_aald S hK hP (2) (by omega) rfl dX4_cancel_60 ?_
                refine lv_iload_n hx hb dX4_cancel_61 rfl (lv_at hl 2 rfl) ?_
                refine lv_dup2_11 hx hb dX4_cancel_62 rfl rfl ?_
                refine wk_ldc S hK hP (2) (by omega) (a) (by omega) rfl dX4_cancel_63 ?_
                refine lv_iload_n hx hb dX4_cancel_64 rfl (lv_at hl 0 rfl) ?_
                refine lv_isub hx hb dX4_cancel_65 ?_
                refine wk_stc S hK hP hS (fun _ h => h) (2) (by omega) (a) (by omega) rfl dX4_cancel_66 (fun H locs hP _ hS => ?_)
                refine lv_aload_n hx hb dX4_cancel_67 rfl (lv_at hl 1 rfl) ?_
                refine wk_get S hK hP 4 (by decide) (hts _ q242) rfl rfl dX4_cancel_68 ?_
                refine lv_iconst (v := 2) hx hb dX4_cancel_71 (by decide) ?_
                refine wk_aald S hK hP (2) (by omega) rfl dX4_cancel_72 ?_
                refine lv_iload_n hx hb dX4_cancel_73 rfl (lv_at hl 3 rfl) ?_
                refine lv_dup2_11 hx hb dX4_cancel_74 rfl rfl ?_
                refine wk_ldc S hK hP (2) (by omega) (bb) (by omega) rfl dX4_cancel_75 ?_
                refine lv_iload_n hx hb dX4_cancel_76 rfl (lv_at hl 0 rfl) ?_
                refine lv_isub hx hb dX4_cancel_77 ?_
                refine wk_stc S hK hP hS (fun _ h => h) (2) (by omega) (bb) (by omega) rfl dX4_cancel_78 (fun H locs hP _ hS => ?_)
                have e0 : (upd (upd r3 (16 + 7 * a + 2) (r3 (16 + 7 * a + 2) - 0)) (16 + 7 * bb + 2) ((upd r3 (16 + 7 * a + 2) (r3 (16 + 7 * a + 2) - 0)) (16 + 7 * bb + 2) - 0)) = r3 := p_can2_0 r3 a bb
                rw [e0] at hP
                refine lv_iinc (v := (nI (bb + 1))) (lv' := [(2, .int ((nI (bb + 1)))), (3, .int (0)), (0, .ref (t.2.1 0)), (1, .int ((nI a)))]) hx hb dX4_cancel_79 hl (k := 3) rfl (nn_1 rfl) (by decide) rfl (fun ls hl => ?_)
                refine lv_goto (tgt := 14) hx hb dX4_cancel_82 (by decide) ?_
                exact ih_14 ((bb + 1)) _ _ _ ls (by omega) (by have h := he3; rw [lp, p_can] at h; (by_cases c1 : r3 (16 + 7 * a + 1) = r3 (16 + 7 * bb + 1)); (· rw [if_pos c1, if_neg (fun c2 => c_28 ⟨c1, c2⟩)] at h; exact h); (· rw [if_neg c1] at h; exact h)) (by have h := kp_can hk3 (show a < 8 by omega) (show bb < 8 by omega); rw [p_can] at h; exact hk3) hP hS (lv_sub hl [2, 3, 0] rfl)
              · skip
                refine lv_aload_n hx hb dX4_cancel_31 rfl (lv_at hl 0 rfl) ?_
                refine wk_get S hK hP 4 (by decide) (hts _ q242) rfl rfl dX4_cancel_32 ?_
                refine lv_iconst (v := 2) hx hb dX4_cancel_35 (by decide) ?_
                refine wk_aald S hK hP (2) (by omega) rfl dX4_cancel_36 ?_
                refine lv_iload_n hx hb dX4_cancel_37 rfl (lv_at hl 1 rfl) ?_
                refine wk_ldc S hK hP (2) (by omega) (a) (by omega) rfl dX4_cancel_38 ?_
                refine lv_aload_n hx hb dX4_cancel_39 rfl (lv_at hl 0 rfl) ?_
                refine wk_get S hK hP 4 (by decide) (hts _ q242) rfl rfl dX4_cancel_40 ?_
                refine lv_iconst (v := 2) hx hb dX4_cancel_43 (by decide) ?_
                refine wk_aald S hK hP (2) (by omega) rfl dX4_cancel_44 ?_
                refine lv_iload_n hx hb dX4_cancel_45 rfl (lv_at hl 2 rfl) ?_
                refine wk_ldc S hK hP (2) (by omega) (bb) (by omega) rfl dX4_cancel_46 ?_
                refine c4_min S (rm_ok (Nat.le_of_ble_eq_true rfl)) hl.1 (Nat.le_of_ble_eq_true rfl) dX4_cancel_47 ?_
                refine lv_goto (tgt := 54) hx hb dX4_cancel_50 (by decide) ?_
                refine lv_istore_n (lv' := [(3, .int (imin (r3 (16 + 7 * a + 2)) (r3 (16 + 7 * bb + 2)))), (0, .ref (t.2.1 0)), (1, .int ((nI a))), (2, .int ((nI bb)))]) hx hb dX4_cancel_54 rfl hl (by decide) rfl (fun ls hl => ?_)
                refine lv_aload_n hx hb dX4_cancel_55 rfl (lv_at hl 1 rfl) ?_
                refine wk_get S hK hP 4 (by decide) (hts _ q242) rfl rfl dX4_cancel_56 ?_
                refine lv_iconst (v := 2) hx hb dX4_cancel_59 (by decide) ?_
                refine wk_aald S hK hP (2) (by omega) rfl dX4_cancel_60 ?_
                refine lv_iload_n hx hb dX4_cancel_61 rfl (lv_at hl 2 rfl) ?_
                refine lv_dup2_11 hx hb dX4_cancel_62 rfl rfl ?_
                refine wk_ldc S hK hP (2) (by omega) (a) (by omega) rfl dX4_cancel_63 ?_
                refine lv_iload_n hx hb dX4_cancel_64 rfl (lv_at hl 0 rfl) ?_
                refine lv_isub hx hb dX4_cancel_65 ?_
                refine wk_stc S hK hP hS (fun _ h => h) (2) (by omega) (a) (by omega) rfl dX4_cancel_66 (fun H locs hP _ hS => ?_)
                refine lv_aload_n hx hb dX4_cancel_67 rfl (lv_at hl 1 rfl) ?_
                refine wk_get S hK hP 4 (by decide) (hts _ q242) rfl rfl dX4_cancel_68 ?_
                refine lv_iconst (v := 2) hx hb dX4_cancel_71 (by decide) ?_
                refine wk_aald S hK hP (2) (by omega) rfl dX4_cancel_72 ?_
                refine lv_iload_n hx hb dX4_cancel_73 rfl (lv_at hl 3 rfl) ?_
                refine lv_dup2_11 hx hb dX4_cancel_74 rfl rfl ?_
                refine wk_ldc S hK hP (2) (by omega) (bb) (by omega) rfl dX4_cancel_75 ?_
                refine lv_iload_n hx hb dX4_cancel_76 rfl (lv_at hl 0 rfl) ?_
                refine lv_isub hx hb dX4_cancel_77 ?_
                refine wk_stc S hK hP hS (fun _ h => h) (2) (by omega) (bb) (by omega) rfl dX4_cancel_78 (fun H locs hP _ hS => ?_)
                refine lv_iinc (v := (nI (bb + 1))) (lv' := [(2, .int ((nI (bb + 1)))), (3, .int (imin (r3 (16 + 7 * a + 2)) (r3 (16 + 7 * bb + 2)))), (0, .ref (t.2.1 0)), (1, .int ((nI a)))]) hx hb dX4_cancel_79 hl (k := 3) rfl (nn_1 rfl) (by decide) rfl (fun ls hl => ?_)
                refine lv_goto (tgt := 14) hx hb dX4_cancel_82 (by decide) ?_
                exact ih_14 ((bb + 1)) _ _ _ ls (by omega) (by have h := he3; rw [lp, p_can] at h; rw [if_pos c_28.1, if_pos c_28.2] at h; exact h) (by have h := kp_can hk3 (show a < 8 by omega) (show bb < 8 by omega); rw [p_can] at h; rw [if_pos c_28.1, if_pos c_28.2] at h; exact h) hP hS (lv_sub hl [2, 3, 0] rfl)
        exact lp_14 (pN r - (a + 1)) (a + 1) _ _ _ ls (by omega) (rfl) (hk2) hP hS (lv_sub hl [1, 2, 0] rfl)
  exact lp_2 (pN r) 0 _ _ _ ls (by omega) (rfl) (kp.rf) hP hS (lv_sub hl [1, 0] rfl)
set_option maxHeartbeats 4000000 in
set_option maxRecDepth 100000 in
theorem k4_bursts (l : Launch) (t : CT) (r : Rw) (k : Nat) (b : Nat) (hk : k < 8) (hV : pV b r) : Met l yX4_bursts (ws_ yX4_bursts cX4_bursts 4 none) (rmF 2) (va_Pc [.ref (t.2.1 0), .int (nI k)] (fun U => wK t U ∧ wW t r U.heap)) (kW none (wW t (p_burst r k)) (wA t)) 0 0 (wA t) := by
  refine kk_start (by decide) (Nat.le_of_ble_eq_true rfl) ?_
  intro p e s m below meth c S hr hlk hin hB ls hl
  obtain ⟨hK, hP⟩ := hB
  have hx := S.1
  have hb := S.2.1
  have hown : s.vm.findClass RX4 = some m.cls := S.2.2.2.1
  have hts := S.2.2.2.2
  have hS : va_S (wA t) s.heap s.heap [] := va_S.rf
  have hl : lv_has ls 4 [(0, .ref (t.2.1 0)), (1, .int ((nI k)))] := hl
  have hn := hV.n.1
  have hn8 := hV.n.2
  refine lv_aload_n hx hb dX4_bursts_0 rfl (lv_at hl 0 rfl) ?_
  refine wk_get S hK hP 4 (by decide) (hts _ q242) rfl rfl dX4_bursts_1 ?_
  refine lv_iconst (v := 2) hx hb dX4_bursts_4 (by decide) ?_
  refine wk_aald S hK hP (2) (by omega) rfl dX4_bursts_5 ?_
  refine lv_iload_n hx hb dX4_bursts_6 rfl (lv_at hl 1 rfl) ?_
  refine wk_ldc S hK hP (2) (by omega) (k) (by omega) rfl dX4_bursts_7 ?_
  refine lv_iconst (v := 2) hx hb dX4_bursts_8 (by decide) ?_
  refine lv_idiv hx hb dX4_bursts_9 (by decide) ?_
  refine lv_istore_n (lv' := [(2, .int ((r (16 + 7 * k + 2) / 2))), (0, .ref (t.2.1 0)), (1, .int ((nI k)))]) hx hb dX4_bursts_10 rfl hl (by decide) rfl (fun ls hl => ?_)
  refine lv_iconst (v := 0) hx hb dX4_bursts_11 (by decide) ?_
  refine lv_istore_n (lv' := [(3, .int (0)), (2, .int ((r (16 + 7 * k + 2) / 2))), (0, .ref (t.2.1 0)), (1, .int ((nI k)))]) hx hb dX4_bursts_12 rfl hl (by decide) rfl (fun ls hl => ?_)
  have lp_13 : ∀ (j q : Nat) (r1 : Rw) (H : Heap) (locs : List Loc) (ls : Array Slot), q + j = pN r → (lp (p_b1f k (r (16 + 7 * k + 2) / 2)) j q r1 = p_b1 r k) → (kp r r1) → wW t (r1) H → va_S (wA t) s.heap H locs → lv_has ls 4 [(0, .ref (t.2.1 0)), (1, .int ((nI k))), (2, .int ((r (16 + 7 * k + 2) / 2))), (3, .int ((nI q)))] → W p l e (rmF 2) s m ([.ref (t.2.1 0), .int (nI k)] : List Value).toArray below meth c H locs 0 0 (MQ below (kW none (wW t (p_burst r k)) (wA t)) ([.ref (t.2.1 0), .int (nI k)] : List Value).toArray s 0 0 (wA t)) (F0 m 13 ls []) := by
    intro j
    induction j with
    | zero =>
      intro q  r1 H locs ls hkj he hk1 hP hS hl
      refine lv_iload_n hx hb dX4_bursts_13 rfl (lv_at hl 3 rfl) ?_
      refine lv_aload_n hx hb dX4_bursts_14 rfl (lv_at hl 0 rfl) ?_
      refine wk_get S hK hP 3 (by decide) (hts _ q239) rfl rfl dX4_bursts_15 ?_
      refine kb_ge_n (tgt := 57) (a := q) (b := (pN r)) S rfl ((hk1 0 (by unfold pm; omega)).trans hn) (by omega) (by omega) dX4_bursts_18 (by decide) (fun c_18 => ?_) (fun c_18 => ?_)
      · skip
        have he0 : r1 = p_b1 r k := he
        subst he0
        refine lv_aload_n hx hb dX4_bursts_57 rfl (lv_at hl 0 rfl) ?_
        refine lv_iload_n hx hb dX4_bursts_58 rfl (lv_at hl 1 rfl) ?_
        refine c4_empties S hK hP hS (fun _ h => h) (rm_ok (Nat.le_of_ble_eq_true rfl)) hl.1 (k) (by omega) rfl (Nat.le_of_ble_eq_true rfl) dX4_bursts_59 (fun H locs hP _ _ hS => ?_)
        refine lv_aload_n hx hb dX4_bursts_62 rfl (lv_at hl 0 rfl) ?_
        refine wk_get S hK hP 4 (by decide) (hts _ q242) rfl rfl dX4_bursts_63 ?_
        refine lv_bipush (v := 6) hx hb dX4_bursts_66 (by decide) ?_
        refine wk_aald S hK hP (6) (by omega) rfl dX4_bursts_68 ?_
        refine lv_iload_n hx hb dX4_bursts_69 rfl (lv_at hl 1 rfl) ?_
        refine lv_sipush (v := 999) hx hb dX4_bursts_70 (by decide) ?_
        refine lv_aload_n hx hb dX4_bursts_73 rfl (lv_at hl 0 rfl) ?_
        refine wk_get S hK hP 4 (by decide) (hts _ q242) rfl rfl dX4_bursts_74 ?_
        refine lv_bipush (v := 6) hx hb dX4_bursts_77 (by decide) ?_
        refine wk_aald S hK hP (6) (by omega) rfl dX4_bursts_79 ?_
        refine lv_iload_n hx hb dX4_bursts_80 rfl (lv_at hl 1 rfl) ?_
        refine wk_ldc S hK hP (6) (by omega) (k) (by omega) rfl dX4_bursts_81 ?_
        refine lv_iconst (v := 1) hx hb dX4_bursts_82 (by decide) ?_
        refine lv_iadd hx hb dX4_bursts_83 ?_
        refine c4_min S (rm_ok (Nat.le_of_ble_eq_true rfl)) hl.1 (Nat.le_of_ble_eq_true rfl) dX4_bursts_84 ?_
        refine wk_stc S hK hP hS (fun _ h => h) (6) (by omega) (k) (by omega) rfl dX4_bursts_87 (fun H locs hP _ hS => ?_)
        refine lv_aload_n hx hb dX4_bursts_88 rfl (lv_at hl 0 rfl) ?_
        refine lv_ldc (v := 99999) hx hb hown (hts _ q699) dX4_bursts_89 ?_
        refine lv_aload_n hx hb dX4_bursts_91 rfl (lv_at hl 0 rfl) ?_
        refine wk_get S hK hP 2 (by decide) (hts _ q237) rfl rfl dX4_bursts_92 ?_
        refine lv_iconst (v := 1) hx hb dX4_bursts_95 (by decide) ?_
        refine lv_iadd hx hb dX4_bursts_96 ?_
        refine c4_min S (rm_ok (Nat.le_of_ble_eq_true rfl)) hl.1 (Nat.le_of_ble_eq_true rfl) dX4_bursts_97 ?_
        refine wk_put S hK hP hS (fun _ h => h) 2 3 (by decide) (by decide) (hts _ q237) rfl rfl rfl (wF_claps _ _ _) dX4_bursts_100 (fun H locs hP _ hS => ?_)
        exact kk_vretW S hr hlk hS (by unfold p_burst p_b3 p_b2; exact hP) dX4_bursts_103
      · exact absurd c_18 (by omega)
    | succ j ih =>
      intro q  r1 H locs ls hkj he hk1 hP hS hl
      have ih_13 := ih
      refine lv_iload_n hx hb dX4_bursts_13 rfl (lv_at hl 3 rfl) ?_
      refine lv_aload_n hx hb dX4_bursts_14 rfl (lv_at hl 0 rfl) ?_
      refine wk_get S hK hP 3 (by decide) (hts _ q239) rfl rfl dX4_bursts_15 ?_
      refine kb_ge_n (tgt := 57) (a := q) (b := (pN r)) S rfl ((hk1 0 (by unfold pm; omega)).trans hn) (by omega) (by omega) dX4_bursts_18 (by decide) (fun c_18 => ?_) (fun c_18 => ?_)
      · exact absurd c_18 (by omega)
      · skip
        refine lv_iload_n hx hb dX4_bursts_21 rfl (lv_at hl 3 rfl) ?_
        refine lv_iload_n hx hb dX4_bursts_22 rfl (lv_at hl 1 rfl) ?_
        refine kb_eq_n (tgt := 51) (a := q) (b := k) S rfl rfl (by omega) (by omega) dX4_bursts_23 (by decide) (fun c_23 => ?_) (fun c_23 => ?_)
        · skip
          refine lv_iinc (v := (nI (q + 1))) (lv' := [(3, .int ((nI (q + 1)))), (0, .ref (t.2.1 0)), (1, .int ((nI k))), (2, .int ((r (16 + 7 * k + 2) / 2)))]) hx hb dX4_bursts_51 hl (k := 3) rfl (nn_1 rfl) (by decide) rfl (fun ls hl => ?_)
          refine lv_goto (tgt := 13) hx hb dX4_bursts_54 (by decide) ?_
          exact ih_13 ((q + 1)) _ _ _ ls (by omega) (by have h := he; rw [lp, p_b1f] at h; rw [if_pos c_23] at h; exact h) (hk1) hP hS (lv_sub hl [1, 2, 3, 0] rfl)
        · skip
          refine lv_aload_n hx hb dX4_bursts_26 rfl (lv_at hl 0 rfl) ?_
          refine wk_get S hK hP 4 (by decide) (hts _ q242) rfl rfl dX4_bursts_27 ?_
          refine lv_iconst (v := 1) hx hb dX4_bursts_30 (by decide) ?_
          refine wk_aald S hK hP (1) (by omega) rfl dX4_bursts_31 ?_
          refine lv_iload_n hx hb dX4_bursts_32 rfl (lv_at hl 3 rfl) ?_
          refine wk_ldc S hK hP (1) (by omega) (q) (by omega) rfl dX4_bursts_33 ?_
          refine lv_aload_n hx hb dX4_bursts_34 rfl (lv_at hl 0 rfl) ?_
          refine wk_get S hK hP 4 (by decide) (hts _ q242) rfl rfl dX4_bursts_35 ?_
          refine lv_iconst (v := 1) hx hb dX4_bursts_38 (by decide) ?_
          refine wk_aald S hK hP (1) (by omega) rfl dX4_bursts_39 ?_
          refine lv_iload_n hx hb dX4_bursts_40 rfl (lv_at hl 1 rfl) ?_
          refine wk_ldc S hK hP (1) (by omega) (k) (by omega) rfl dX4_bursts_41 ?_
          refine lv_icmp_ne (tgt := 51) hx hb dX4_bursts_42 (by decide) (fun c_42 => ?_) (fun c_42 => ?_)
          · skip
            refine lv_iinc (v := (nI (q + 1))) (lv' := [(3, .int ((nI (q + 1)))), (0, .ref (t.2.1 0)), (1, .int ((nI k))), (2, .int ((r (16 + 7 * k + 2) / 2)))]) hx hb dX4_bursts_51 hl (k := 3) rfl (nn_1 rfl) (by decide) rfl (fun ls hl => ?_)
            refine lv_goto (tgt := 13) hx hb dX4_bursts_54 (by decide) ?_
            exact ih_13 ((q + 1)) _ _ _ ls (by omega) (by have h := he; rw [lp, p_b1f] at h; rw [if_neg c_23, if_neg c_42] at h; exact h) (hk1) hP hS (lv_sub hl [1, 2, 3, 0] rfl)
          · skip
            refine lv_aload_n hx hb dX4_bursts_45 rfl (lv_at hl 0 rfl) ?_
            refine lv_iload_n hx hb dX4_bursts_46 rfl (lv_at hl 3 rfl) ?_
            refine lv_iload_n hx hb dX4_bursts_47 rfl (lv_at hl 2 rfl) ?_
            refine c4_peals S hK hP hS (fun _ h => h) (rm_ok (Nat.le_of_ble_eq_true rfl)) hl.1 (q) (by omega) rfl (Nat.le_of_ble_eq_true rfl) dX4_bursts_48 (fun H locs hP _ _ hS => ?_)
            refine lv_iinc (v := (nI (q + 1))) (lv' := [(3, .int ((nI (q + 1)))), (0, .ref (t.2.1 0)), (1, .int ((nI k))), (2, .int ((r (16 + 7 * k + 2) / 2)))]) hx hb dX4_bursts_51 hl (k := 3) rfl (nn_1 rfl) (by decide) rfl (fun ls hl => ?_)
            refine lv_goto (tgt := 13) hx hb dX4_bursts_54 (by decide) ?_
            exact ih_13 ((q + 1)) _ _ _ ls (by omega) (by have h := he; rw [lp, p_b1f] at h; rw [if_neg c_23, if_pos c_42] at h; exact h) (kp_more hk1 (by omega)) hP hS (lv_sub hl [1, 2, 3, 0] rfl)
  exact lp_13 (pN r) 0 _ _ _ ls (by omega) (rfl) (kp.rf) hP hS (lv_sub hl [2, 3, 1, 0] rfl)
section WC
variable {p : Program} {l : Launch} {e : Env} {R : Room} {s : State} {m : MethodId} {args : Array Value} {below : List Frame} {meth : Method} {c : Code} {H H0 : Heap} {locs : List Loc} {cells slots : Nat} {Q : State → Prop}
variable {cc : ByteArray} {pc nL : Nat} {ls : Array Slot} {rest : List Value} {t : CT} {r : Rw} {A : Nat → Prop}
theorem c0_storms (S : CallFix p m c cc nL s args lw_all RX0) (hK : wK t s) (hP : wW t r H) (hS : va_S A H0 H locs) (hA : ∀ q, wA t q → A q) (hR : kRm R 3 cells slots) (hsz : ls.size = nL) (b : Nat) (hV : pV b r) (hb : b < 2 ^ 30) (hrest : (rest.map fun v => v.category).sum ≤ 8) (hdg : decode cc pc = .ok (.invokevirtual 134, 3)) (kk : ∀ (H1 : Heap) (locs1 : List Loc), wW t (p_s0 r) H1 → H.size ≤ H1.size → (∀ q : Nat, q < H.size → ¬ wA t q → H1[q]? = H[q]?) → va_S A H0 H1 locs1 → W p l e R s m args below meth c H1 locs1 cells slots Q (F0 m (pc + 3) ls (rest))) : W p l e R s m args below meth c H locs cells slots Q (F0 m pc ls (.ref (t.2.1 0) :: rest)) := by
  exact kk_Wv (W.runV (As := []) (rest := rest) S (k4_storms l t r b hV hb) (cwV 0 S.2.2.2.2 (lw_V q712 q713 q714 q108 q715) rfl rfl rfl (by decide +kernel) ⟨hR.1, by have := hR.2.1; show 8 + (3 + 11) + 38 * 2 ≤ R.locals; omega⟩) ⟨w_blind, w_recv hK hP, w_pre hK hP⟩ rfl rfl hsz rfl (lv_room hrest) hdg ⟨hR.2.2.1, hR.2.2.2⟩) hS hA hA kk
theorem c0_cancel (S : CallFix p m c cc nL s args lw_all RX0) (hK : wK t s) (hP : wW t r H) (hS : va_S A H0 H locs) (hA : ∀ q, wA t q → A q) (hR : kRm R 2 cells slots) (hsz : ls.size = nL) (b : Nat) (hV : pV b r) (hrest : (rest.map fun v => v.category).sum ≤ 8) (hdg : decode cc pc = .ok (.invokevirtual 143, 3)) (kk : ∀ (H1 : Heap) (locs1 : List Loc), wW t (p_cans (pN r) r) H1 → H.size ≤ H1.size → (∀ q : Nat, q < H.size → ¬ wA t q → H1[q]? = H[q]?) → va_S A H0 H1 locs1 → W p l e R s m args below meth c H1 locs1 cells slots Q (F0 m (pc + 3) ls (rest))) : W p l e R s m args below meth c H locs cells slots Q (F0 m pc ls (.ref (t.2.1 0) :: rest)) := by
  exact kk_Wv (W.runV (As := []) (rest := rest) S (k4_cancel l t r b hV) (cwV 0 S.2.2.2.2 (lw_V q729 q730 q731 q108 q732) rfl rfl rfl (by decide +kernel) ⟨hR.1, by have := hR.2.1; show 8 + (4 + 11) + 38 * 1 ≤ R.locals; omega⟩) ⟨w_blind, w_recv hK hP, w_pre hK hP⟩ rfl rfl hsz rfl (lv_room hrest) hdg ⟨hR.2.2.1, hR.2.2.2⟩) hS hA hA kk
theorem c0_bursts (S : CallFix p m c cc nL s args lw_all RX0) (hK : wK t s) (hP : wW t r H) (hS : va_S A H0 H locs) (hA : ∀ q, wA t q → A q) (hR : kRm R 3 cells slots) (hsz : ls.size = nL) (k : Nat) (b : Nat) (hk : k < 8) (hV : pV b r) {i0 : Int32} (e0 : i0 = nI k) (hrest : (rest.map fun v => v.category).sum ≤ 8) (hdg : decode cc pc = .ok (.invokevirtual 149, 3)) (kk : ∀ (H1 : Heap) (locs1 : List Loc), wW t (p_burst r k) H1 → H.size ≤ H1.size → (∀ q : Nat, q < H.size → ¬ wA t q → H1[q]? = H[q]?) → va_S A H0 H1 locs1 → W p l e R s m args below meth c H1 locs1 cells slots Q (F0 m (pc + 3) ls (rest))) : W p l e R s m args below meth c H locs cells slots Q (F0 m pc ls (.int i0 :: .ref (t.2.1 0) :: rest)) := by
  subst e0
  exact kk_Wv (W.runV (As := [.int (nI k)]) (rest := rest) S (k4_bursts l t r k b hk hV) (cwV 1 S.2.2.2.2 (lw_V q766 q767 q768 q108 q769) rfl rfl rfl (by decide +kernel) ⟨hR.1, by have := hR.2.1; show 8 + (4 + 11) + 38 * 2 ≤ R.locals; omega⟩) ⟨w_blind, w_recv hK hP, w_pre hK hP⟩ rfl rfl hsz rfl (lv_room hrest) hdg ⟨hR.2.2.1, hR.2.2.2⟩) hS hA hA kk
end WC

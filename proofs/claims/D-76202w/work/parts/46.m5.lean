set_option maxHeartbeats 4000000 in
set_option maxRecDepth 100000 in
theorem k_goes (l : Launch) (t : MT) (r : Rw) (x : Nat → Rw) (n : Nat) (b : Nat) (hV : pV b r) (hbn : b + n < 2 ^ 30) : Met l yX13_goes (ws_ yX13_goes cX13_goes 3 none) (rmF 5) (va_Pc [.ref (t.2.1 0), .int (nI n)] (fun U => mK t U ∧ mW t r x U.heap)) (kW none (mW t (p_goes n r) (x)) (mA t)) 0 0 (mA t) := by
  refine kk_start (by decide) (Nat.le_of_ble_eq_true rfl) ?_
  intro p e s m below meth c S hr hlk hin hB ls hl
  obtain ⟨hK, hP⟩ := hB
  have hx := S.1
  have hb := S.2.1
  have hown : s.vm.findClass RX13 = some m.cls := S.2.2.2.1
  have hts := S.2.2.2.2
  have hS : va_S (mA t) s.heap s.heap [] := va_S.rf
  have hl : lv_has ls 3 [(0, .ref (t.2.1 0)), (1, .int ((nI n)))] := hl
  refine lv_iconst (v := 0) hx hb dX13_goes_0 (by decide) ?_
  refine lv_istore_n (lv' := [(2, .int (0)), (0, .ref (t.2.1 0)), (1, .int ((nI n)))]) hx hb dX13_goes_1 rfl hl (by decide) rfl (fun ls hl => ?_)
  have lp_2 : ∀ (j k : Nat) (r1 : Rw) (H : Heap) (locs : List Loc) (ls : Array Slot), k + j = n → (p_goes j r1 = p_goes n r) → (pV (b + k) r1) → mW t (r1) (x) H → va_S (mA t) s.heap H locs → lv_has ls 3 [(0, .ref (t.2.1 0)), (1, .int ((nI n))), (2, .int ((nI k)))] → W p l e (rmF 5) s m ([.ref (t.2.1 0), .int (nI n)] : List Value).toArray below meth c H locs 0 0 (MQ below (kW none (mW t (p_goes n r) (x)) (mA t)) ([.ref (t.2.1 0), .int (nI n)] : List Value).toArray s 0 0 (mA t)) (F0 m 2 ls []) := by
    intro j
    induction j with
    | zero =>
      intro k  r1 H locs ls hkj he hV1 hP hS hl
      refine lv_iload_n hx hb dX13_goes_2 rfl (lv_at hl 2 rfl) ?_
      refine lv_iload_n hx hb dX13_goes_3 rfl (lv_at hl 1 rfl) ?_
      refine kb_ge_n (tgt := 17) (a := k) (b := n) S rfl rfl (by omega) (by omega) dX13_goes_4 (by decide) (fun c_4 => ?_) (fun c_4 => ?_)
      · skip
        exact kk_vretW S hr hlk hS (he ▸ hP) dX13_goes_17
      · exact absurd c_4 (by omega)
    | succ j ih =>
      intro k  r1 H locs ls hkj he hV1 hP hS hl
      have ih_2 := ih
      refine lv_iload_n hx hb dX13_goes_2 rfl (lv_at hl 2 rfl) ?_
      refine lv_iload_n hx hb dX13_goes_3 rfl (lv_at hl 1 rfl) ?_
      refine kb_ge_n (tgt := 17) (a := k) (b := n) S rfl rfl (by omega) (by omega) dX13_goes_4 (by decide) (fun c_4 => ?_) (fun c_4 => ?_)
      · exact absurd c_4 (by omega)
      · skip
        refine lv_aload_n hx hb dX13_goes_7 rfl (lv_at hl 0 rfl) ?_
        refine c_day S hK hP hS (rm_ok (Nat.le_of_ble_eq_true rfl)) hl.1 ((b + k)) hV1 (by omega) (Nat.le_of_ble_eq_true rfl) dX13_goes_8 (fun H locs hP hS => ?_)
        refine lv_iinc (v := (nI (k + 1))) (lv' := [(2, .int ((nI (k + 1)))), (0, .ref (t.2.1 0)), (1, .int ((nI n)))]) hx hb dX13_goes_11 hl (k := 2) rfl (nn_1 rfl) (by decide) rfl (fun ls hl => ?_)
        refine lv_goto (tgt := 2) hx hb dX13_goes_14 (by decide) ?_
        exact ih_2 ((k + 1)) _ _ _ ls (by omega) (by have h := he; rw [p_goes] at h; exact h) (pV_day (b := b + k) hV1 (by omega)) hP hS (lv_sub hl [1, 2, 0] rfl)
  exact lp_2 n 0 _ _ _ ls (by omega) (rfl) (hV) hP hS (lv_sub hl [1, 2, 0] rfl)
set_option maxHeartbeats 4000000 in
set_option maxRecDepth 100000 in
theorem k_sumOf (l : Launch) (t : MT) (r : Rw) (x : Nat → Rw) (w : Nat) (b : Nat) (hV : pV b r) (hw : w ≤ 7) : Met l yX13_sumOf (ws_ yX13_sumOf cX13_sumOf 4 (some .int)) (rmF 3) (va_Pc [.ref (t.2.1 0), .int (nI w)] (fun U => mK t U ∧ mW t r x U.heap)) (kR (some (.int (p_sum r w)))) 0 0 (fun _ => False) := by
  refine kk_start (by decide) (Nat.le_of_ble_eq_true rfl) ?_
  intro p e s m below meth c S hr hlk hin hB ls hl
  obtain ⟨hK, hP⟩ := hB
  have hx := S.1
  have hb := S.2.1
  have hown : s.vm.findClass RX13 = some m.cls := S.2.2.2.1
  have hts := S.2.2.2.2
  have hl : lv_has ls 4 [(0, .ref (t.2.1 0)), (1, .int ((nI w)))] := hl
  have hn := hV.n.1
  have hn8 := hV.n.2
  refine lv_iconst (v := 0) hx hb dX13_sumOf_0 (by decide) ?_
  refine lv_istore_n (lv' := [(2, .int (0)), (0, .ref (t.2.1 0)), (1, .int ((nI w)))]) hx hb dX13_sumOf_1 rfl hl (by decide) rfl (fun ls hl => ?_)
  refine lv_iconst (v := 0) hx hb dX13_sumOf_2 (by decide) ?_
  refine lv_istore_n (lv' := [(3, .int (0)), (2, .int (0)), (0, .ref (t.2.1 0)), (1, .int ((nI w)))]) hx hb dX13_sumOf_3 rfl hl (by decide) rfl (fun ls hl => ?_)
  have lp_4 : ∀ (j k : Nat) (a : Int32) (ls : Array Slot), k + j = pN r → (lp (fun k a => a + (if w = 7 then p_loud r k else r (16 + 7 * k + w))) j k a = p_sum r w) → lv_has ls 4 [(0, .ref (t.2.1 0)), (1, .int ((nI w))), (2, .int (a)), (3, .int ((nI k)))] → W p l e (rmF 3) s m ([.ref (t.2.1 0), .int (nI w)] : List Value).toArray below meth c s.heap [] 0 0 (MQ below (kR (some (.int (p_sum r w)))) ([.ref (t.2.1 0), .int (nI w)] : List Value).toArray s 0 0 (fun _ => False)) (F0 m 4 ls []) := by
    intro j
    induction j with
    | zero =>
      intro k a ls hkj he hl
      refine lv_iload_n hx hb dX13_sumOf_4 rfl (lv_at hl 3 rfl) ?_
      refine lv_aload_n hx hb dX13_sumOf_5 rfl (lv_at hl 0 rfl) ?_
      refine mg_s S hK hP dX13_sumOf_6 ?_
      refine lv_iconst (v := 0) hx hb dX13_sumOf_9 (by decide) ?_
      refine mk_lds S hK hP (0) (by omega) rfl dX13_sumOf_10 ?_
      refine kb_ge_n (tgt := 43) (a := k) (b := (pN r)) S rfl hn (by omega) (by omega) dX13_sumOf_11 (by decide) (fun c_11 => ?_) (fun c_11 => ?_)
      · skip
        refine lv_iload_n hx hb dX13_sumOf_43 rfl (lv_at hl 2 rfl) ?_
        exact kk_iretR S hr hlk rfl rfl (by rw [← he]; rfl) dX13_sumOf_44
      · exact absurd c_11 (by omega)
    | succ j ih =>
      intro k a ls hkj he hl
      have ih_4 := ih
      refine lv_iload_n hx hb dX13_sumOf_4 rfl (lv_at hl 3 rfl) ?_
      refine lv_aload_n hx hb dX13_sumOf_5 rfl (lv_at hl 0 rfl) ?_
      refine mg_s S hK hP dX13_sumOf_6 ?_
      refine lv_iconst (v := 0) hx hb dX13_sumOf_9 (by decide) ?_
      refine mk_lds S hK hP (0) (by omega) rfl dX13_sumOf_10 ?_
      refine kb_ge_n (tgt := 43) (a := k) (b := (pN r)) S rfl hn (by omega) (by omega) dX13_sumOf_11 (by decide) (fun c_11 => ?_) (fun c_11 => ?_)
      · exact absurd c_11 (by omega)
      · skip
        refine lv_iload_n hx hb dX13_sumOf_14 rfl (lv_at hl 2 rfl) ?_
        refine lv_iload_n hx hb dX13_sumOf_15 rfl (lv_at hl 1 rfl) ?_
        refine lv_bipush (v := 7) hx hb dX13_sumOf_16 (by decide) ?_
        refine kb_ne_n (tgt := 29) (a := w) (b := 7) S rfl rfl (by omega) (by omega) dX13_sumOf_18 (by decide) (fun c_18 => ?_) (fun c_18 => ?_)
        · skip
          refine lv_aload_n hx hb dX13_sumOf_29 rfl (lv_at hl 0 rfl) ?_
          refine lv_iload_n hx hb dX13_sumOf_30 rfl (lv_at hl 3 rfl) ?_
          refine lv_iload_n hx hb dX13_sumOf_31 rfl (lv_at hl 1 rfl) ?_
          refine c_its S hK hP (rm_ok (Nat.le_of_ble_eq_true rfl)) hl.1 (k) (w) (by omega) (by omega) rfl rfl (Nat.le_of_ble_eq_true rfl) dX13_sumOf_32 ?_
          refine lv_iadd hx hb dX13_sumOf_35 ?_
          refine lv_istore_n (lv' := [(2, .int ((a + r (16 + 7 * k + w)))), (0, .ref (t.2.1 0)), (1, .int ((nI w))), (3, .int ((nI k)))]) hx hb dX13_sumOf_36 rfl hl (by decide) rfl (fun ls hl => ?_)
          refine lv_iinc (v := (nI (k + 1))) (lv' := [(3, .int ((nI (k + 1)))), (2, .int ((a + r (16 + 7 * k + w)))), (0, .ref (t.2.1 0)), (1, .int ((nI w)))]) hx hb dX13_sumOf_37 hl (k := 3) rfl (nn_1 rfl) (by decide) rfl (fun ls hl => ?_)
          refine lv_goto (tgt := 4) hx hb dX13_sumOf_40 (by decide) ?_
          exact ih_4 ((k + 1)) _ ls (by omega) (by have h := he; simp only [lp] at h; rw [if_neg c_18] at h; exact h) (lv_sub hl [2, 3, 1, 0] rfl)
        · skip
          refine lv_aload_n hx hb dX13_sumOf_21 rfl (lv_at hl 0 rfl) ?_
          refine lv_iload_n hx hb dX13_sumOf_22 rfl (lv_at hl 3 rfl) ?_
          refine c_loud S hK hP (rm_ok (Nat.le_of_ble_eq_true rfl)) hl.1 (k) (b) (by omega) hV rfl (Nat.le_of_ble_eq_true rfl) dX13_sumOf_23 ?_
          refine lv_goto (tgt := 35) hx hb dX13_sumOf_26 (by decide) ?_
          refine lv_iadd hx hb dX13_sumOf_35 ?_
          refine lv_istore_n (lv' := [(2, .int ((a + p_loud r k))), (0, .ref (t.2.1 0)), (1, .int ((nI w))), (3, .int ((nI k)))]) hx hb dX13_sumOf_36 rfl hl (by decide) rfl (fun ls hl => ?_)
          refine lv_iinc (v := (nI (k + 1))) (lv' := [(3, .int ((nI (k + 1)))), (2, .int ((a + p_loud r k))), (0, .ref (t.2.1 0)), (1, .int ((nI w)))]) hx hb dX13_sumOf_37 hl (k := 3) rfl (nn_1 rfl) (by decide) rfl (fun ls hl => ?_)
          refine lv_goto (tgt := 4) hx hb dX13_sumOf_40 (by decide) ?_
          exact ih_4 ((k + 1)) _ ls (by omega) (by have h := he; simp only [lp] at h; rw [if_pos c_18] at h; exact h) (lv_sub hl [2, 3, 1, 0] rfl)
  exact lp_4 (pN r) 0 _ ls (by omega) (rfl) (lv_sub hl [2, 3, 1, 0] rfl)
set_option maxHeartbeats 4000000 in
set_option maxRecDepth 100000 in
theorem k_strainedOnes (l : Launch) (t : MT) (r : Rw) (x : Nat → Rw) (b : Nat) (hV : pV b r) : Met l yX13_strainedOnes (ws_ yX13_strainedOnes cX13_strainedOnes 3 (some .int)) (rmF 3) (va_Pc [.ref (t.2.1 0)] (fun U => mK t U ∧ mW t r x U.heap)) (kR (some (.int (nI (p_so r))))) 0 0 (fun _ => False) := by
  refine kk_start (by decide) (Nat.le_of_ble_eq_true rfl) ?_
  intro p e s m below meth c S hr hlk hin hB ls hl
  obtain ⟨hK, hP⟩ := hB
  have hx := S.1
  have hb := S.2.1
  have hown : s.vm.findClass RX13 = some m.cls := S.2.2.2.1
  have hts := S.2.2.2.2
  have hl : lv_has ls 3 [(0, .ref (t.2.1 0))] := hl
  have hn := hV.n.1
  have hn8 := hV.n.2
  refine lv_iconst (v := 0) hx hb dX13_strainedOnes_0 (by decide) ?_
  refine lv_istore_n (lv' := [(1, .int (0)), (0, .ref (t.2.1 0))]) hx hb dX13_strainedOnes_1 rfl hl (by decide) rfl (fun ls hl => ?_)
  refine lv_iconst (v := 0) hx hb dX13_strainedOnes_2 (by decide) ?_
  refine lv_istore_n (lv' := [(2, .int (0)), (1, .int (0)), (0, .ref (t.2.1 0))]) hx hb dX13_strainedOnes_3 rfl hl (by decide) rfl (fun ls hl => ?_)
  have lp_4 : ∀ (j k : Nat) (a : Nat) (ls : Array Slot), k + j = pN r → (lp (fun k a => a ||| (if p_over r k = true then 2 ^ k else 0)) j k a = p_so r) → lv_has ls 3 [(0, .ref (t.2.1 0)), (1, .int ((nI a))), (2, .int ((nI k)))] → W p l e (rmF 3) s m ([.ref (t.2.1 0)] : List Value).toArray below meth c s.heap [] 0 0 (MQ below (kR (some (.int (nI (p_so r))))) ([.ref (t.2.1 0)] : List Value).toArray s 0 0 (fun _ => False)) (F0 m 4 ls []) := by
    intro j
    induction j with
    | zero =>
      intro k a ls hkj he hl
      refine lv_iload_n hx hb dX13_strainedOnes_4 rfl (lv_at hl 2 rfl) ?_
      refine lv_aload_n hx hb dX13_strainedOnes_5 rfl (lv_at hl 0 rfl) ?_
      refine mg_s S hK hP dX13_strainedOnes_6 ?_
      refine lv_iconst (v := 0) hx hb dX13_strainedOnes_9 (by decide) ?_
      refine mk_lds S hK hP (0) (by omega) rfl dX13_strainedOnes_10 ?_
      refine kb_ge_n (tgt := 43) (a := k) (b := (pN r)) S rfl hn (by omega) (by omega) dX13_strainedOnes_11 (by decide) (fun c_11 => ?_) (fun c_11 => ?_)
      · skip
        refine lv_iload_n hx hb dX13_strainedOnes_43 rfl (lv_at hl 1 rfl) ?_
        exact kk_iretR S hr hlk rfl rfl (by rw [← he]; rfl) dX13_strainedOnes_44
      · exact absurd c_11 (by omega)
    | succ j ih =>
      intro k a ls hkj he hl
      have ih_4 := ih
      refine lv_iload_n hx hb dX13_strainedOnes_4 rfl (lv_at hl 2 rfl) ?_
      refine lv_aload_n hx hb dX13_strainedOnes_5 rfl (lv_at hl 0 rfl) ?_
      refine mg_s S hK hP dX13_strainedOnes_6 ?_
      refine lv_iconst (v := 0) hx hb dX13_strainedOnes_9 (by decide) ?_
      refine mk_lds S hK hP (0) (by omega) rfl dX13_strainedOnes_10 ?_
      refine kb_ge_n (tgt := 43) (a := k) (b := (pN r)) S rfl hn (by omega) (by omega) dX13_strainedOnes_11 (by decide) (fun c_11 => ?_) (fun c_11 => ?_)
      · exact absurd c_11 (by omega)
      · skip
        refine lv_iload_n hx hb dX13_strainedOnes_14 rfl (lv_at hl 1 rfl) ?_
        refine lv_aload_n hx hb dX13_strainedOnes_15 rfl (lv_at hl 0 rfl) ?_
        refine lv_iload_n hx hb dX13_strainedOnes_16 rfl (lv_at hl 2 rfl) ?_
        refine c_loud S hK hP (rm_ok (Nat.le_of_ble_eq_true rfl)) hl.1 (k) (b) (by omega) hV rfl (Nat.le_of_ble_eq_true rfl) dX13_strainedOnes_17 ?_
        refine lv_aload_n hx hb dX13_strainedOnes_20 rfl (lv_at hl 0 rfl) ?_
        refine lv_iload_n hx hb dX13_strainedOnes_21 rfl (lv_at hl 2 rfl) ?_
        refine c_bears S hK hP (rm_ok (Nat.le_of_ble_eq_true rfl)) hl.1 (k) (b) (by omega) hV rfl (Nat.le_of_ble_eq_true rfl) dX13_strainedOnes_22 ?_
        refine lv_icmp_le (tgt := 34) hx hb dX13_strainedOnes_25 (by decide) (fun c_25 => ?_) (fun c_25 => ?_)
        · skip
          refine lv_iconst (v := 0) hx hb dX13_strainedOnes_34 (by decide) ?_
          refine lv_ior hx hb dX13_strainedOnes_35 ?_
          refine kb_nat (y := nI ((a ||| 0))) (nn_or rfl rfl) ?_
          refine lv_istore_n (lv' := [(1, .int ((nI (a ||| 0)))), (0, .ref (t.2.1 0)), (2, .int ((nI k)))]) hx hb dX13_strainedOnes_36 rfl hl (by decide) rfl (fun ls hl => ?_)
          refine lv_iinc (v := (nI (k + 1))) (lv' := [(2, .int ((nI (k + 1)))), (1, .int ((nI (a ||| 0)))), (0, .ref (t.2.1 0))]) hx hb dX13_strainedOnes_37 hl (k := 2) rfl (nn_1 rfl) (by decide) rfl (fun ls hl => ?_)
          refine lv_goto (tgt := 4) hx hb dX13_strainedOnes_40 (by decide) ?_
          exact ih_4 ((k + 1)) ((a ||| 0)) ls (by omega) (by have h := he; simp only [lp] at h; rw [if_neg (p_ov0 c_25)] at h; exact h) (lv_sub hl [2, 1, 0] rfl)
        · skip
          refine lv_iconst (v := 1) hx hb dX13_strainedOnes_28 (by decide) ?_
          refine lv_iload_n hx hb dX13_strainedOnes_29 rfl (lv_at hl 2 rfl) ?_
          refine lv_ishl hx hb dX13_strainedOnes_30 ?_
          refine lv_goto (tgt := 35) hx hb dX13_strainedOnes_31 (by decide) ?_
          refine lv_ior hx hb dX13_strainedOnes_35 ?_
          refine kb_nat (y := nI ((a ||| (2 ^ k)))) (nn_or rfl (nn_shl1 _ (by omega))) ?_
          refine lv_istore_n (lv' := [(1, .int ((nI (a ||| (2 ^ k))))), (0, .ref (t.2.1 0)), (2, .int ((nI k)))]) hx hb dX13_strainedOnes_36 rfl hl (by decide) rfl (fun ls hl => ?_)
          refine lv_iinc (v := (nI (k + 1))) (lv' := [(2, .int ((nI (k + 1)))), (1, .int ((nI (a ||| (2 ^ k))))), (0, .ref (t.2.1 0))]) hx hb dX13_strainedOnes_37 hl (k := 2) rfl (nn_1 rfl) (by decide) rfl (fun ls hl => ?_)
          refine lv_goto (tgt := 4) hx hb dX13_strainedOnes_40 (by decide) ?_
          exact ih_4 ((k + 1)) ((a ||| (2 ^ k))) ls (by omega) (by have h := he; simp only [lp] at h; rw [if_pos (p_ov1 c_25)] at h; exact h) (lv_sub hl [2, 1, 0] rfl)
  exact lp_4 (pN r) 0 (0) ls (by omega) (rfl) (lv_sub hl [2, 1, 0] rfl)
set_option maxHeartbeats 4000000 in
set_option maxRecDepth 100000 in
theorem k_loudest (l : Launch) (t : MT) (r : Rw) (x : Nat → Rw) (b : Nat) (hV : pV b r) : Met l yX13_loudest (ws_ yX13_loudest cX13_loudest 3 (some .int)) (rmF 3) (va_Pc [.ref (t.2.1 0)] (fun U => mK t U ∧ mW t r x U.heap)) (kR (some (.int (oi (p_lst r))))) 0 0 (fun _ => False) := by
  refine kk_start (by decide) (Nat.le_of_ble_eq_true rfl) ?_
  intro p e s m below meth c S hr hlk hin hB ls hl
  obtain ⟨hK, hP⟩ := hB
  have hx := S.1
  have hb := S.2.1
  have hown : s.vm.findClass RX13 = some m.cls := S.2.2.2.1
  have hts := S.2.2.2.2
  have hl : lv_has ls 3 [(0, .ref (t.2.1 0))] := hl
  have hn := hV.n.1
  have hn8 := hV.n.2
  refine lv_aload_n hx hb dX13_loudest_0 rfl (lv_at hl 0 rfl) ?_
  refine mg_s S hK hP dX13_loudest_1 ?_
  refine lv_iconst (v := 0) hx hb dX13_loudest_4 (by decide) ?_
  refine mk_lds S hK hP (0) (by omega) rfl dX13_loudest_5 ?_
  refine kb_ne0_n (tgt := 13) (a := (pN r)) S hn (by omega) dX13_loudest_6 (by decide) (fun c_6 => ?_) (fun c_6 => ?_)
  · skip
    refine lv_iconst (v := 0) hx hb dX13_loudest_13 (by decide) ?_
    refine lv_istore_n (lv' := [(1, .int (0)), (0, .ref (t.2.1 0))]) hx hb dX13_loudest_14 rfl hl (by decide) rfl (fun ls hl => ?_)
    refine lv_iconst (v := 1) hx hb dX13_loudest_15 (by decide) ?_
    refine lv_istore_n (lv' := [(2, .int (1)), (1, .int (0)), (0, .ref (t.2.1 0))]) hx hb dX13_loudest_16 rfl hl (by decide) rfl (fun ls hl => ?_)
    have lp_17 : ∀ (j k : Nat) (bb : Nat) (ls : Array Slot), k + j = pN r → (lp (p_lstf r) j k (some bb) = p_lst r) → (bb < 8) → lv_has ls 3 [(0, .ref (t.2.1 0)), (1, .int ((nI bb))), (2, .int ((nI k)))] → W p l e (rmF 3) s m ([.ref (t.2.1 0)] : List Value).toArray below meth c s.heap [] 0 0 (MQ below (kR (some (.int (oi (p_lst r))))) ([.ref (t.2.1 0)] : List Value).toArray s 0 0 (fun _ => False)) (F0 m 17 ls []) := by
      intro j
      induction j with
      | zero =>
        intro k bb ls hkj he hbb hl
        refine lv_iload_n hx hb dX13_loudest_17 rfl (lv_at hl 2 rfl) ?_
        refine lv_aload_n hx hb dX13_loudest_18 rfl (lv_at hl 0 rfl) ?_
        refine mg_s S hK hP dX13_loudest_19 ?_
        refine lv_iconst (v := 0) hx hb dX13_loudest_22 (by decide) ?_
        refine mk_lds S hK hP (0) (by omega) rfl dX13_loudest_23 ?_
        refine kb_ge_n (tgt := 52) (a := k) (b := (pN r)) S rfl hn (by omega) (by omega) dX13_loudest_24 (by decide) (fun c_24 => ?_) (fun c_24 => ?_)
        · skip
          refine lv_iload_n hx hb dX13_loudest_52 rfl (lv_at hl 1 rfl) ?_
          exact kk_iretR S hr hlk rfl rfl (by rw [← he]; rfl) dX13_loudest_53
        · exact absurd c_24 (by omega)
      | succ j ih =>
        intro k bb ls hkj he hbb hl
        have ih_17 := ih
        refine lv_iload_n hx hb dX13_loudest_17 rfl (lv_at hl 2 rfl) ?_
        refine lv_aload_n hx hb dX13_loudest_18 rfl (lv_at hl 0 rfl) ?_
        refine mg_s S hK hP dX13_loudest_19 ?_
        refine lv_iconst (v := 0) hx hb dX13_loudest_22 (by decide) ?_
        refine mk_lds S hK hP (0) (by omega) rfl dX13_loudest_23 ?_
        refine kb_ge_n (tgt := 52) (a := k) (b := (pN r)) S rfl hn (by omega) (by omega) dX13_loudest_24 (by decide) (fun c_24 => ?_) (fun c_24 => ?_)
        · exact absurd c_24 (by omega)
        · skip
          refine lv_aload_n hx hb dX13_loudest_27 rfl (lv_at hl 0 rfl) ?_
          refine lv_iload_n hx hb dX13_loudest_28 rfl (lv_at hl 2 rfl) ?_
          refine c_loud S hK hP (rm_ok (Nat.le_of_ble_eq_true rfl)) hl.1 (k) (b) (by omega) hV rfl (Nat.le_of_ble_eq_true rfl) dX13_loudest_29 ?_
          refine lv_aload_n hx hb dX13_loudest_32 rfl (lv_at hl 0 rfl) ?_
          refine lv_iload_n hx hb dX13_loudest_33 rfl (lv_at hl 1 rfl) ?_
          refine c_loud S hK hP (rm_ok (Nat.le_of_ble_eq_true rfl)) hl.1 (bb) (b) (by omega) hV rfl (Nat.le_of_ble_eq_true rfl) dX13_loudest_34 ?_
          refine lv_icmp_le (tgt := 44) hx hb dX13_loudest_37 (by decide) (fun c_37 => ?_) (fun c_37 => ?_)
          · skip
            refine lv_iload_n hx hb dX13_loudest_44 rfl (lv_at hl 1 rfl) ?_
            refine lv_istore_n (lv' := [(1, .int ((nI bb))), (0, .ref (t.2.1 0)), (2, .int ((nI k)))]) hx hb dX13_loudest_45 rfl hl (by decide) rfl (fun ls hl => ?_)
            refine lv_iinc (v := (nI (k + 1))) (lv' := [(2, .int ((nI (k + 1)))), (1, .int ((nI bb))), (0, .ref (t.2.1 0))]) hx hb dX13_loudest_46 hl (k := 2) rfl (nn_1 rfl) (by decide) rfl (fun ls hl => ?_)
            refine lv_goto (tgt := 17) hx hb dX13_loudest_49 (by decide) ?_
            exact ih_17 ((k + 1)) (bb) ls (by omega) (by have h := he; rw [lp, p_lstf] at h; rw [if_neg (Int32.not_lt.mpr c_37)] at h; exact h) (by omega) (lv_sub hl [2, 1, 0] rfl)
          · skip
            refine lv_iload_n hx hb dX13_loudest_40 rfl (lv_at hl 2 rfl) ?_
            refine lv_goto (tgt := 45) hx hb dX13_loudest_41 (by decide) ?_
            refine lv_istore_n (lv' := [(1, .int ((nI k))), (0, .ref (t.2.1 0)), (2, .int ((nI k)))]) hx hb dX13_loudest_45 rfl hl (by decide) rfl (fun ls hl => ?_)
            refine lv_iinc (v := (nI (k + 1))) (lv' := [(2, .int ((nI (k + 1)))), (1, .int ((nI k))), (0, .ref (t.2.1 0))]) hx hb dX13_loudest_46 hl (k := 2) rfl (nn_1 rfl) (by decide) rfl (fun ls hl => ?_)
            refine lv_goto (tgt := 17) hx hb dX13_loudest_49 (by decide) ?_
            exact ih_17 ((k + 1)) (k) ls (by omega) (by have h := he; rw [lp, p_lstf] at h; rw [if_pos (Int32.not_le.mp c_37)] at h; exact h) (by omega) (lv_sub hl [2, 1, 0] rfl)
    exact lp_17 (pN r - 1) 1 (0) ls (by omega) (by unfold p_lst; obtain ⟨z, hz⟩ : ∃ z, pN r = z + 1 := ⟨pN r - 1, by omega⟩; rw [hz]; rfl) (by omega) (lv_sub hl [2, 1, 0] rfl)
  · skip
    refine lv_iconst (v := (-1)) hx hb dX13_loudest_9 (by decide) ?_
    refine lv_goto (tgt := 14) hx hb dX13_loudest_10 (by decide) ?_
    refine lv_istore_n (lv' := [(1, .int ((-1))), (0, .ref (t.2.1 0))]) hx hb dX13_loudest_14 rfl hl (by decide) rfl (fun ls hl => ?_)
    refine lv_iconst (v := 1) hx hb dX13_loudest_15 (by decide) ?_
    refine lv_istore_n (lv' := [(2, .int (1)), (1, .int ((-1))), (0, .ref (t.2.1 0))]) hx hb dX13_loudest_16 rfl hl (by decide) rfl (fun ls hl => ?_)
    refine lv_iload_n hx hb dX13_loudest_17 rfl (lv_at hl 0 rfl) ?_
    refine lv_aload_n hx hb dX13_loudest_18 rfl (lv_at hl 2 rfl) ?_
    refine mg_s S hK hP dX13_loudest_19 ?_
    refine lv_iconst (v := 0) hx hb dX13_loudest_22 (by decide) ?_
    refine mk_lds S hK hP (0) (by omega) rfl dX13_loudest_23 ?_
    refine kb_ge_n (tgt := 52) (a := 1) (b := (pN r)) S rfl hn (by omega) (by omega) dX13_loudest_24 (by decide) (fun c_24 => ?_) (fun c_24 => ?_)
    · skip
      refine lv_iload_n hx hb dX13_loudest_52 rfl (lv_at hl 1 rfl) ?_
      exact kk_iretR S hr hlk rfl rfl (by unfold p_lst; rw [c_6]; rfl) dX13_loudest_53
    · exact absurd c_24 (by omega)
set_option maxHeartbeats 4000000 in
set_option maxRecDepth 100000 in
theorem k_usedOnes (l : Launch) (t : MT) (r : Rw) (x : Nat → Rw) (b : Nat) (hV : pV b r) : Met l yX13_usedOnes (ws_ yX13_usedOnes cX13_usedOnes 3 (some .int)) (rmF 1) (va_Pc [.ref (t.2.1 0)] (fun U => mK t U ∧ mW t r x U.heap)) (kR (some (.int (nI (p_used r))))) 0 0 (fun _ => False) := by
  refine kk_start (by decide) (Nat.le_of_ble_eq_true rfl) ?_
  intro p e s m below meth c S hr hlk hin hB ls hl
  obtain ⟨hK, hP⟩ := hB
  have hx := S.1
  have hb := S.2.1
  have hown : s.vm.findClass RX13 = some m.cls := S.2.2.2.1
  have hts := S.2.2.2.2
  have hl : lv_has ls 3 [(0, .ref (t.2.1 0))] := hl
  have hn := hV.n.1
  have hn8 := hV.n.2
  refine lv_iconst (v := 0) hx hb dX13_usedOnes_0 (by decide) ?_
  refine lv_istore_n (lv' := [(1, .int (0)), (0, .ref (t.2.1 0))]) hx hb dX13_usedOnes_1 rfl hl (by decide) rfl (fun ls hl => ?_)
  refine lv_iconst (v := 0) hx hb dX13_usedOnes_2 (by decide) ?_
  refine lv_istore_n (lv' := [(2, .int (0)), (1, .int (0)), (0, .ref (t.2.1 0))]) hx hb dX13_usedOnes_3 rfl hl (by decide) rfl (fun ls hl => ?_)
  have lp_4 : ∀ (j k : Nat) (a : Nat) (ls : Array Slot), k + j = pN r → ((lp (fun k a => a ||| 2 ^ pC r k) j k a) = p_used r) → lv_has ls 3 [(0, .ref (t.2.1 0)), (1, .int ((nI a))), (2, .int ((nI k)))] → W p l e (rmF 1) s m ([.ref (t.2.1 0)] : List Value).toArray below meth c s.heap [] 0 0 (MQ below (kR (some (.int (nI (p_used r))))) ([.ref (t.2.1 0)] : List Value).toArray s 0 0 (fun _ => False)) (F0 m 4 ls []) := by
    intro j
    induction j with
    | zero =>
      intro k a ls hkj he hl
      refine lv_iload_n hx hb dX13_usedOnes_4 rfl (lv_at hl 2 rfl) ?_
      refine lv_aload_n hx hb dX13_usedOnes_5 rfl (lv_at hl 0 rfl) ?_
      refine mg_s S hK hP dX13_usedOnes_6 ?_
      refine lv_iconst (v := 0) hx hb dX13_usedOnes_9 (by decide) ?_
      refine mk_lds S hK hP (0) (by omega) rfl dX13_usedOnes_10 ?_
      refine kb_ge_n (tgt := 31) (a := k) (b := (pN r)) S rfl hn (by omega) (by omega) dX13_usedOnes_11 (by decide) (fun c_11 => ?_) (fun c_11 => ?_)
      · skip
        refine lv_iload_n hx hb dX13_usedOnes_31 rfl (lv_at hl 1 rfl) ?_
        exact kk_iretR S hr hlk rfl rfl (by rw [← he]; rfl) dX13_usedOnes_32
      · exact absurd c_11 (by omega)
    | succ j ih =>
      intro k a ls hkj he hl
      have ih_4 := ih
      refine lv_iload_n hx hb dX13_usedOnes_4 rfl (lv_at hl 2 rfl) ?_
      refine lv_aload_n hx hb dX13_usedOnes_5 rfl (lv_at hl 0 rfl) ?_
      refine mg_s S hK hP dX13_usedOnes_6 ?_
      refine lv_iconst (v := 0) hx hb dX13_usedOnes_9 (by decide) ?_
      refine mk_lds S hK hP (0) (by omega) rfl dX13_usedOnes_10 ?_
      refine kb_ge_n (tgt := 31) (a := k) (b := (pN r)) S rfl hn (by omega) (by omega) dX13_usedOnes_11 (by decide) (fun c_11 => ?_) (fun c_11 => ?_)
      · exact absurd c_11 (by omega)
      · skip
        refine lv_iload_n hx hb dX13_usedOnes_14 rfl (lv_at hl 1 rfl) ?_
        refine lv_iconst (v := 1) hx hb dX13_usedOnes_15 (by decide) ?_
        refine lv_aload_n hx hb dX13_usedOnes_16 rfl (lv_at hl 0 rfl) ?_
        refine lv_iload_n hx hb dX13_usedOnes_17 rfl (lv_at hl 2 rfl) ?_
        refine lv_iconst (v := 1) hx hb dX13_usedOnes_18 (by decide) ?_
        refine c_its S hK hP (rm_ok (Nat.le_of_ble_eq_true rfl)) hl.1 (k) (1) (by omega) (by omega) rfl rfl (Nat.le_of_ble_eq_true rfl) dX13_usedOnes_19 ?_
        refine lv_ishl hx hb dX13_usedOnes_22 ?_
        refine lv_ior hx hb dX13_usedOnes_23 ?_
        refine kb_nat (y := nI ((a ||| (2 ^ pC r k)))) (nn_or rfl ((congrArg (fun z => (1 : Int32) <<< (z &&& 31)) (hV.c (show k < 8 by omega)).1).trans (nn_shl1 _ (by have := (hV.c (show k < 8 by omega)).2; omega)))) ?_
        refine lv_istore_n (lv' := [(1, .int ((nI (a ||| (2 ^ pC r k))))), (0, .ref (t.2.1 0)), (2, .int ((nI k)))]) hx hb dX13_usedOnes_24 rfl hl (by decide) rfl (fun ls hl => ?_)
        refine lv_iinc (v := (nI (k + 1))) (lv' := [(2, .int ((nI (k + 1)))), (1, .int ((nI (a ||| (2 ^ pC r k))))), (0, .ref (t.2.1 0))]) hx hb dX13_usedOnes_25 hl (k := 2) rfl (nn_1 rfl) (by decide) rfl (fun ls hl => ?_)
        refine lv_goto (tgt := 4) hx hb dX13_usedOnes_28 (by decide) ?_
        exact ih_4 ((k + 1)) ((a ||| (2 ^ pC r k))) ls (by omega) (by have h := he; simp only [lp] at h; exact h) (lv_sub hl [2, 1, 0] rfl)
  exact lp_4 (pN r) 0 (0) ls (by omega) (rfl) (lv_sub hl [2, 1, 0] rfl)
section MC
variable {p : Program} {l : Launch} {e : Env} {R : Room} {s : State} {m : MethodId} {args : Array Value} {below : List Frame} {meth : Method} {c : Code} {H H0 : Heap} {locs : List Loc} {cells slots : Nat} {Q : State → Prop}
variable {cc : ByteArray} {pc nL : Nat} {ls : Array Slot} {rest : List Value} {t : MT} {r : Rw} {x : Nat → Rw}
theorem c_goes (S : CallFix p m c cc nL s args lw_all RX13) (hK : mK t s) (hP : mW t r x H) (hS : va_S (mA t) H0 H locs) (hR : kRm R 6 cells slots) (hsz : ls.size = nL) (n : Nat) (b : Nat) (hV : pV b r) (hbn : b + n < 2 ^ 30) {i0 : Int32} (e0 : i0 = nI n) (hrest : (rest.map fun v => v.category).sum ≤ 8) (hdg : decode cc pc = .ok (.invokevirtual 125, 3)) (kk : ∀ (H1 : Heap) (locs1 : List Loc), mW t (p_goes n r) (x) H1 → va_S (mA t) H0 H1 locs1 → W p l e R s m args below meth c H1 locs1 cells slots Q (F0 m (pc + 3) ls (rest))) : W p l e R s m args below meth c H locs cells slots Q (F0 m pc ls (.int i0 :: .ref (t.2.1 0) :: rest)) := by
  subst e0
  exact kk_Wv (W.runV (As := [.int (nI n)]) (rest := rest) S (k_goes l t r x n b hV hbn) (cwV 1 S.2.2.2.2 (lw_V q1389 q1391 qs65 q117 q1392) rfl rfl rfl (by decide +kernel) ⟨hR.1, by have := hR.2.1; show 8 + (3 + 11) + 38 * 5 ≤ R.locals; omega⟩) ⟨m_blind, m_recv hK hP, m_pre hK hP⟩ rfl rfl hsz rfl (lv_room hrest) hdg ⟨hR.2.2.1, hR.2.2.2⟩) hS (fun _ h => h) (fun _ h => h) (fun H1 locs1 hB _ _ hS => kk H1 locs1 hB hS)
theorem c_sumOf (S : CallFix p m c cc nL s args lw_all RX13) (hK : mK t s) (hP : mW t r x H) (hR : kRm R 4 cells slots) (hsz : ls.size = nL) (w : Nat) (b : Nat) (hV : pV b r) (hw : w ≤ 7) {i0 : Int32} (e0 : i0 = nI w) (hrest : (rest.map fun v => v.category).sum ≤ 8) (hdg : decode cc pc = .ok (.invokevirtual 128, 3)) (kk : W p l e R s m args below meth c H locs cells slots Q (F0 m (pc + 3) ls (.int (p_sum r w) :: rest))) : W p l e R s m args below meth c H locs cells slots Q (F0 m pc ls (.int i0 :: .ref (t.2.1 0) :: rest)) := by
  subst e0
  exact kk_Ri (W.runV (As := [.int (nI w)]) (rest := rest) S (k_sumOf l t r x w b hV hw) (cwV 1 S.2.2.2.2 (lw_V q1420 q1422 qs71 q117 q1423) rfl rfl rfl (by decide +kernel) ⟨hR.1, by have := hR.2.1; show 8 + (4 + 11) + 38 * 3 ≤ R.locals; omega⟩) ⟨m_blind, m_recv hK hP, m_pre hK hP⟩ rfl rfl hsz rfl (lv_room hrest) hdg ⟨hR.2.2.1, hR.2.2.2⟩) kk
theorem c_strainedOnes (S : CallFix p m c cc nL s args lw_all RX13) (hK : mK t s) (hP : mW t r x H) (hR : kRm R 4 cells slots) (hsz : ls.size = nL) (b : Nat) (hV : pV b r) (hrest : (rest.map fun v => v.category).sum ≤ 8) (hdg : decode cc pc = .ok (.invokevirtual 131, 3)) (kk : W p l e R s m args below meth c H locs cells slots Q (F0 m (pc + 3) ls (.int (nI (p_so r)) :: rest))) : W p l e R s m args below meth c H locs cells slots Q (F0 m pc ls (.ref (t.2.1 0) :: rest)) := by
  exact kk_Ri (W.runV (As := []) (rest := rest) S (k_strainedOnes l t r x b hV) (cwV 0 S.2.2.2.2 (lw_V q1424 q1426 qs72 q117 q1427) rfl rfl rfl (by decide +kernel) ⟨hR.1, by have := hR.2.1; show 8 + (3 + 11) + 38 * 3 ≤ R.locals; omega⟩) ⟨m_blind, m_recv hK hP, m_pre hK hP⟩ rfl rfl hsz rfl (lv_room hrest) hdg ⟨hR.2.2.1, hR.2.2.2⟩) kk
theorem c_loudest (S : CallFix p m c cc nL s args lw_all RX13) (hK : mK t s) (hP : mW t r x H) (hR : kRm R 4 cells slots) (hsz : ls.size = nL) (b : Nat) (hV : pV b r) (hrest : (rest.map fun v => v.category).sum ≤ 8) (hdg : decode cc pc = .ok (.invokevirtual 134, 3)) (kk : W p l e R s m args below meth c H locs cells slots Q (F0 m (pc + 3) ls (.int (oi (p_lst r)) :: rest))) : W p l e R s m args below meth c H locs cells slots Q (F0 m pc ls (.ref (t.2.1 0) :: rest)) := by
  exact kk_Ri (W.runV (As := []) (rest := rest) S (k_loudest l t r x b hV) (cwV 0 S.2.2.2.2 (lw_V q1428 q1430 qs73 q117 q1431) rfl rfl rfl (by decide +kernel) ⟨hR.1, by have := hR.2.1; show 8 + (3 + 11) + 38 * 3 ≤ R.locals; omega⟩) ⟨m_blind, m_recv hK hP, m_pre hK hP⟩ rfl rfl hsz rfl (lv_room hrest) hdg ⟨hR.2.2.1, hR.2.2.2⟩) kk
theorem c_usedOnes (S : CallFix p m c cc nL s args lw_all RX13) (hK : mK t s) (hP : mW t r x H) (hR : kRm R 2 cells slots) (hsz : ls.size = nL) (b : Nat) (hV : pV b r) (hrest : (rest.map fun v => v.category).sum ≤ 8) (hdg : decode cc pc = .ok (.invokevirtual 137, 3)) (kk : W p l e R s m args below meth c H locs cells slots Q (F0 m (pc + 3) ls (.int (nI (p_used r)) :: rest))) : W p l e R s m args below meth c H locs cells slots Q (F0 m pc ls (.ref (t.2.1 0) :: rest)) := by
  exact kk_Ri (W.runV (As := []) (rest := rest) S (k_usedOnes l t r x b hV) (cwV 0 S.2.2.2.2 (lw_V q1432 q1434 qs74 q117 q1435) rfl rfl rfl (by decide +kernel) ⟨hR.1, by have := hR.2.1; show 8 + (3 + 11) + 38 * 1 ≤ R.locals; omega⟩) ⟨m_blind, m_recv hK hP, m_pre hK hP⟩ rfl rfl hsz rfl (lv_room hrest) hdg ⟨hR.2.2.1, hR.2.2.2⟩) kk
end MC
set_option maxHeartbeats 4000000 in
set_option maxRecDepth 100000 in
theorem k_now (l : Launch) (t : MT) (r : Rw) (x : Nat → Rw) (w : Int32) (b : Nat) (hV : pV b r) : Met l yX13_now (ws_ yX13_now cX13_now 2 (some .int)) (rmF 4) (va_Pc [.ref (t.2.1 0), .int w] (fun U => mK t U ∧ mW t r x U.heap)) (kW (some (.int ((o_now r w).1))) (mW t ((o_now r w).2.1) (fx x (o_now r w).2.2)) (mA t)) 0 0 (mA t) := by
  refine kk_start (by decide) (Nat.le_of_ble_eq_true rfl) ?_
  intro p e s m below meth c S hr hlk hin hB ls hl
  obtain ⟨hK, hP⟩ := hB
  have hx := S.1
  have hb := S.2.1
  have hown : s.vm.findClass RX13 = some m.cls := S.2.2.2.1
  have hts := S.2.2.2.2
  have hS : va_S (mA t) s.heap s.heap [] := va_S.rf
  have hl : lv_has ls 2 [(0, .ref (t.2.1 0)), (1, .int (w))] := hl
  have hn := hV.n.1
  have hn8 := hV.n.2
  refine lv_iload_n hx hb dX13_now_0 rfl (lv_at hl 1 rfl) ?_
  by_cases c_1 : 0 ≤ w ∧ w < 7
  · skip
    obtain ⟨w_, hw_, rfl⟩ := nat_of_lt (n := 7) rfl (by omega) c_1
    have hcl_w_ := nI_clamp (n := w_) (by omega)
    rcases (show w_ = 0 ∨ w_ = 1 ∨ w_ = 2 ∨ w_ = 3 ∨ w_ = 4 ∨ w_ = 5 ∨ w_ = 6 by omega) with k_1 | k_1 | k_1 | k_1 | k_1 | k_1 | k_1
    · skip
      refine kb_tabIn (tgt := 44) S ((rfl).trans (congrArg nI k_1)) (by decide) dX13_now_1 (by decide) (by decide) rfl (by decide) ?_
      subst k_1
      refine lv_aload_n hx hb dX13_now_44 rfl (lv_at hl 0 rfl) ?_
      refine mg_s S hK hP dX13_now_45 ?_
      refine lv_iconst (v := 1) hx hb dX13_now_48 (by decide) ?_
      refine mk_lds S hK hP (1) (by omega) rfl dX13_now_49 ?_
      exact kk_iretW S hr hlk hS (by simp only [o_now, c_1, hcl_w_, reduceIte, and_self, oF, oK, fx]; exact hP) (by simp only [o_now, c_1, hcl_w_, reduceIte, and_self, oF, oK, fnd] <;> first | rfl | decide) dX13_now_50
    · skip
      refine kb_tabIn (tgt := 51) S ((rfl).trans (congrArg nI k_1)) (by decide) dX13_now_1 (by decide) (by decide) rfl (by decide) ?_
      subst k_1
      refine lv_aload_n hx hb dX13_now_51 rfl (lv_at hl 0 rfl) ?_
      refine mg_s S hK hP dX13_now_52 ?_
      refine lv_iconst (v := 3) hx hb dX13_now_55 (by decide) ?_
      refine mk_lds S hK hP (3) (by omega) rfl dX13_now_56 ?_
      exact kk_iretW S hr hlk hS (by simp only [o_now, c_1, hcl_w_, reduceIte, and_self, oF, oK, fx]; exact hP) (by simp only [o_now, c_1, hcl_w_, reduceIte, and_self, oF, oK, fnd] <;> first | rfl | decide) dX13_now_57
    · skip
      refine kb_tabIn (tgt := 58) S ((rfl).trans (congrArg nI k_1)) (by decide) dX13_now_1 (by decide) (by decide) rfl (by decide) ?_
      subst k_1
      refine lv_aload_n hx hb dX13_now_58 rfl (lv_at hl 0 rfl) ?_
      refine lv_iconst (v := 2) hx hb dX13_now_59 (by decide) ?_
      refine c_sumOf S hK hP (rm_ok (Nat.le_of_ble_eq_true rfl)) hl.1 (2) (b) hV (by omega) rfl (Nat.le_of_ble_eq_true rfl) dX13_now_60 ?_
      exact kk_iretW S hr hlk hS (by simp only [o_now, c_1, hcl_w_, reduceIte, and_self, oF, oK, fx]; exact hP) (by simp only [o_now, c_1, hcl_w_, reduceIte, and_self, oF, oK, fnd] <;> first | rfl | decide) dX13_now_63
    · skip
      refine kb_tabIn (tgt := 64) S ((rfl).trans (congrArg nI k_1)) (by decide) dX13_now_1 (by decide) (by decide) rfl (by decide) ?_
      subst k_1
      refine lv_aload_n hx hb dX13_now_64 rfl (lv_at hl 0 rfl) ?_
      refine lv_bipush (v := 7) hx hb dX13_now_65 (by decide) ?_
      refine c_sumOf S hK hP (rm_ok (Nat.le_of_ble_eq_true rfl)) hl.1 (7) (b) hV (by omega) rfl (Nat.le_of_ble_eq_true rfl) dX13_now_67 ?_
      exact kk_iretW S hr hlk hS (by simp only [o_now, c_1, hcl_w_, reduceIte, and_self, oF, oK, fx]; exact hP) (by simp only [o_now, c_1, hcl_w_, reduceIte, and_self, oF, oK, fnd] <;> first | rfl | decide) dX13_now_70
    · skip
      refine kb_tabIn (tgt := 71) S ((rfl).trans (congrArg nI k_1)) (by decide) dX13_now_1 (by decide) (by decide) rfl (by decide) ?_
      subst k_1
      refine lv_aload_n hx hb dX13_now_71 rfl (lv_at hl 0 rfl) ?_
      refine c_strainedOnes S hK hP (rm_ok (Nat.le_of_ble_eq_true rfl)) hl.1 (b) hV (Nat.le_of_ble_eq_true rfl) dX13_now_72 ?_
      exact kk_iretW S hr hlk hS (by simp only [o_now, c_1, hcl_w_, reduceIte, and_self, oF, oK, fx]; exact hP) (by simp only [o_now, c_1, hcl_w_, reduceIte, and_self, oF, oK, fnd] <;> first | rfl | decide) dX13_now_75
    · skip
      refine kb_tabIn (tgt := 76) S ((rfl).trans (congrArg nI k_1)) (by decide) dX13_now_1 (by decide) (by decide) rfl (by decide) ?_
      subst k_1
      refine lv_aload_n hx hb dX13_now_76 rfl (lv_at hl 0 rfl) ?_
      refine c_loudest S hK hP (rm_ok (Nat.le_of_ble_eq_true rfl)) hl.1 (b) hV (Nat.le_of_ble_eq_true rfl) dX13_now_77 ?_
      exact kk_iretW S hr hlk hS (by simp only [o_now, c_1, hcl_w_, reduceIte, and_self, oF, oK, fx]; exact hP) (by simp only [o_now, c_1, hcl_w_, reduceIte, and_self, oF, oK, fnd] <;> first | rfl | decide) dX13_now_80
    · skip
      refine kb_tabIn (tgt := 81) S ((rfl).trans (congrArg nI k_1)) (by decide) dX13_now_1 (by decide) (by decide) rfl (by decide) ?_
      subst k_1
      refine lv_aload_n hx hb dX13_now_81 rfl (lv_at hl 0 rfl) ?_
      refine c_usedOnes S hK hP (rm_ok (Nat.le_of_ble_eq_true rfl)) hl.1 (b) hV (Nat.le_of_ble_eq_true rfl) dX13_now_82 ?_
      exact kk_iretW S hr hlk hS (by simp only [o_now, c_1, hcl_w_, reduceIte, and_self, oF, oK, fx]; exact hP) (by simp only [o_now, c_1, hcl_w_, reduceIte, and_self, oF, oK, fnd] <;> first | rfl | decide) dX13_now_85
  · skip
    refine kb_tabRaw (n := 7) (tgt := 86) S rfl (by decide) c_1 (by decide) dX13_now_1 (by decide) ?_
    refine lv_aload_n hx hb dX13_now_86 rfl (lv_at hl 0 rfl) ?_
    refine lv_ldc (v := (-1000001)) hx hb hown (hts _ q1305) dX13_now_87 ?_
    refine c_finds S hK hP hS (rm_ok (Nat.le_of_ble_eq_true rfl)) hl.1 (0) (by decide) (by decide) (Nat.le_of_ble_eq_true rfl) dX13_now_89 (fun H locs hP hS => ?_)
    exact kk_iretW S hr hlk hS (by simp only [o_now, c_1, reduceIte, and_self, oF, oK, fx]; exact hP) (by simp only [o_now, c_1, reduceIte, and_self, oF, oK, fnd] <;> first | rfl | decide) dX13_now_92
set_option maxHeartbeats 4000000 in
set_option maxRecDepth 100000 in
theorem k_go (l : Launch) (t : MT) (r : Rw) (x : Nat → Rw) (n : Int32) (b : Nat) (hV : pV b r) (hb : b ≤ 99999) : Met l yX13_go (ws_ yX13_go cX13_go 2 (some .int)) (rmF 6) (va_Pc [.ref (t.2.1 0), .int n] (fun U => mK t U ∧ mW t r x U.heap)) (kW (some (.int ((o_go r n).1))) (mW t ((o_go r n).2.1) (fx x (o_go r n).2.2)) (mA t)) 0 0 (mA t) := by
  refine kk_start (by decide) (Nat.le_of_ble_eq_true rfl) ?_
  intro p e s m below meth c S hr hlk hin hB ls hl
  obtain ⟨hK, hP⟩ := hB
  have hx := S.1
  have hb := S.2.1
  have hown : s.vm.findClass RX13 = some m.cls := S.2.2.2.1
  have hts := S.2.2.2.2
  have hS : va_S (mA t) s.heap s.heap [] := va_S.rf
  have hl : lv_has ls 2 [(0, .ref (t.2.1 0)), (1, .int (n))] := hl
  have hn := hV.n.1
  have hn8 := hV.n.2
  have hd := (hV.d (by omega)).1
  have hdb := (hV.d (by omega)).2
  refine lv_iload_n hx hb dX13_go_0 rfl (lv_at hl 1 rfl) ?_
  refine lv_i2l hx hb dX13_go_1 rfl ?_
  refine lv_lconst (v := (1 : Int32).toInt64) hx hb dX13_go_2 (by decide) ?_
  refine lv_ldc2 (v := ((60) : Int32).toInt64) hx hb hown (hts _ q1386) dX13_go_3 ?_
  refine c_isIn S (rm_ok (Nat.le_of_ble_eq_true rfl)) hl.1 (Nat.le_of_ble_eq_true rfl) dX13_go_6 ?_
  refine kb_ifne (tgt := 19) S dX13_go_9 (by decide) (fun c_9 => ?_) (fun c_9 => ?_)
  · skip
    obtain ⟨n_, hn_, rfl⟩ := nat_of_1 (n := 60) (rfl) (by omega) c_9
    have hcl_n_ := nI_clamp (n := n_) (by omega)
    refine lv_aload_n hx hb dX13_go_19 rfl (lv_at hl 0 rfl) ?_
    refine mg_s S hK hP dX13_go_20 ?_
    refine lv_iconst (v := 1) hx hb dX13_go_23 (by decide) ?_
    refine mk_lds S hK hP (1) (by omega) rfl dX13_go_24 ?_
    refine lv_iload_n hx hb dX13_go_25 rfl (lv_at hl 1 rfl) ?_
    refine lv_iadd hx hb dX13_go_26 ?_
    refine lv_ldc (v := 99999) hx hb hown (hts _ q1387) dX13_go_27 ?_
    refine kb_le_n (tgt := 39) (a := ((pD r) + n_)) (b := 99999) S (nn_add hd rfl) rfl (by omega) (by omega) dX13_go_29 (by decide) (fun c_29 => ?_) (fun c_29 => ?_)
    · skip
      refine lv_aload_n hx hb dX13_go_39 rfl (lv_at hl 0 rfl) ?_
      refine lv_iload_n hx hb dX13_go_40 rfl (lv_at hl 1 rfl) ?_
      refine c_goes S hK hP hS (rm_ok (Nat.le_of_ble_eq_true rfl)) hl.1 (n_) (b) hV (by omega) rfl (Nat.le_of_ble_eq_true rfl) dX13_go_41 (fun H locs hP hS => ?_)
      refine lv_aload_n hx hb dX13_go_44 rfl (lv_at hl 0 rfl) ?_
      refine mg_s S hK hP dX13_go_45 ?_
      refine lv_iconst (v := 3) hx hb dX13_go_48 (by decide) ?_
      refine mk_lds S hK hP (3) (by omega) rfl dX13_go_49 ?_
      exact kk_iretW S hr hlk hS (by simp only [o_go, c_9, c_29, hcl_n_, Nat.not_lt.mpr c_29, reduceIte, and_self, oF, oK, fx]; exact hP) (by simp only [o_go, c_9, c_29, hcl_n_, Nat.not_lt.mpr c_29, reduceIte, and_self, oF, oK, fnd] <;> first | rfl | decide) dX13_go_50
    · skip
      refine lv_aload_n hx hb dX13_go_32 rfl (lv_at hl 0 rfl) ?_
      refine lv_ldc (v := (-1000005)) hx hb hown (hts _ q1388) dX13_go_33 ?_
      refine c_finds S hK hP hS (rm_ok (Nat.le_of_ble_eq_true rfl)) hl.1 (4) (by decide) (by decide) (Nat.le_of_ble_eq_true rfl) dX13_go_35 (fun H locs hP hS => ?_)
      exact kk_iretW S hr hlk hS (by simp only [o_go, c_9, c_29, hcl_n_, Nat.not_le.mpr c_29, reduceIte, and_self, oF, oK, fx]; exact hP) (by simp only [o_go, c_9, c_29, hcl_n_, Nat.not_le.mpr c_29, reduceIte, and_self, oF, oK, fnd] <;> first | rfl | decide) dX13_go_38
  · skip
    refine lv_aload_n hx hb dX13_go_12 rfl (lv_at hl 0 rfl) ?_
    refine lv_ldc (v := (-1000001)) hx hb hown (hts _ q1305) dX13_go_13 ?_
    refine c_finds S hK hP hS (rm_ok (Nat.le_of_ble_eq_true rfl)) hl.1 (0) (by decide) (by decide) (Nat.le_of_ble_eq_true rfl) dX13_go_15 (fun H locs hP hS => ?_)
    exact kk_iretW S hr hlk hS (by simp only [o_go, c_9, reduceIte, and_self, oF, oK, fx]; exact hP) (by simp only [o_go, c_9, reduceIte, and_self, oF, oK, fnd] <;> first | rfl | decide) dX13_go_18
section MC
variable {p : Program} {l : Launch} {e : Env} {R : Room} {s : State} {m : MethodId} {args : Array Value} {below : List Frame} {meth : Method} {c : Code} {H H0 : Heap} {locs : List Loc} {cells slots : Nat} {Q : State → Prop}
variable {cc : ByteArray} {pc nL : Nat} {ls : Array Slot} {rest : List Value} {t : MT} {r : Rw} {x : Nat → Rw}


end MC
set_option maxHeartbeats 4000000 in
set_option maxRecDepth 100000 in
theorem k_then (l : Launch) (t : MT) (r : Rw) (x : Nat → Rw) (k : Nat) (w : Nat) (n : Nat) (b : Nat) (hk : k < 8) (hw : w ≤ 7) (hV : pV b r) (hbn : b + n < 2 ^ 30) : Met l yX13_then (ws_ yX13_then cX13_then 5 (some .int)) (rmF 6) (va_Pc [.ref (t.2.1 0), .int (nI k), .int (nI w), .int (nI n)] (fun U => mK t U ∧ mW t r x U.heap)) (kW (some (.int (p_told (p_goes n r) k w))) (mW t (r) (va_up x 3 r)) (mA t)) 0 0 (mA t) := by
  refine kk_start (by decide) (Nat.le_of_ble_eq_true rfl) ?_
  intro p e s m below meth c S hr hlk hin hB ls hl
  obtain ⟨hK, hP⟩ := hB
  have hx := S.1
  have hb := S.2.1
  have hown : s.vm.findClass RX13 = some m.cls := S.2.2.2.1
  have hts := S.2.2.2.2
  have hS : va_S (mA t) s.heap s.heap [] := va_S.rf
  have hl : lv_has ls 5 [(0, .ref (t.2.1 0)), (1, .int ((nI k))), (2, .int ((nI w))), (3, .int ((nI n)))] := hl
  refine lv_aload_n hx hb dX13_then_0 rfl (lv_at hl 0 rfl) ?_
  refine mg_s S hK hP dX13_then_1 ?_
  refine lv_aload_n hx hb dX13_then_4 rfl (lv_at hl 0 rfl) ?_
  refine mg_aside S hK hP dX13_then_5 ?_
  refine c_copyRow_1_4 S hK hP hS (rm_ok (Nat.le_of_ble_eq_true rfl)) hl.1 (Nat.le_of_ble_eq_true rfl) dX13_then_8 (fun H locs hP hS => ?_)
  refine lv_aload_n hx hb dX13_then_11 rfl (lv_at hl 0 rfl) ?_
  refine lv_iload_n hx hb dX13_then_12 rfl (lv_at hl 3 rfl) ?_
  refine c_goes S hK hP hS (rm_ok (Nat.le_of_ble_eq_true rfl)) hl.1 (n) (b) hV (by omega) rfl (Nat.le_of_ble_eq_true rfl) dX13_then_13 (fun H locs hP hS => ?_)
  have hVg := pV_goes (b := 0) n b r hV (by omega)
  refine lv_iload_n hx hb dX13_then_16 rfl (lv_at hl 2 rfl) ?_
  refine lv_bipush (v := 7) hx hb dX13_then_17 (by decide) ?_
  refine kb_ne_n (tgt := 30) (a := w) (b := 7) S rfl rfl (by omega) (by omega) dX13_then_19 (by decide) (fun c_19 => ?_) (fun c_19 => ?_)
  · skip
    refine lv_aload_n hx hb dX13_then_30 rfl (lv_at hl 0 rfl) ?_
    refine lv_iload_n hx hb dX13_then_31 rfl (lv_at hl 1 rfl) ?_
    refine lv_iload_n hx hb dX13_then_32 rfl (lv_at hl 2 rfl) ?_
    refine c_its S hK hP (rm_ok (Nat.le_of_ble_eq_true rfl)) hl.1 (k) (w) (by omega) (by omega) rfl rfl (Nat.le_of_ble_eq_true rfl) dX13_then_33 ?_
    refine lv_istore (lv' := [(4, .int ((p_goes n r) (16 + 7 * k + w))), (0, .ref (t.2.1 0)), (1, .int ((nI k))), (2, .int ((nI w))), (3, .int ((nI n)))]) hx hb dX13_then_36 hl (by decide) rfl (fun ls hl => ?_)
    refine lv_aload_n hx hb dX13_then_38 rfl (lv_at hl 1 rfl) ?_
    refine mg_aside S hK hP dX13_then_39 ?_
    refine lv_aload_n hx hb dX13_then_42 rfl (lv_at hl 1 rfl) ?_
    refine mg_s S hK hP dX13_then_43 ?_
    refine c_copyRow_4_1 S hK hP hS (rm_ok (Nat.le_of_ble_eq_true rfl)) hl.1 (Nat.le_of_ble_eq_true rfl) dX13_then_46 (fun H locs hP hS => ?_)
    refine lv_iload hx hb dX13_then_49 (lv_at hl 0 rfl) ?_
    exact kk_iretW S hr hlk hS (hP) (by unfold p_told; rw [if_neg c_19]) dX13_then_51
  · skip
    refine lv_aload_n hx hb dX13_then_22 rfl (lv_at hl 0 rfl) ?_
    refine lv_iload_n hx hb dX13_then_23 rfl (lv_at hl 1 rfl) ?_
    refine c_loud S hK hP (rm_ok (Nat.le_of_ble_eq_true rfl)) hl.1 (k) ((b + n)) (by omega) hVg rfl (Nat.le_of_ble_eq_true rfl) dX13_then_24 ?_
    refine lv_goto (tgt := 36) hx hb dX13_then_27 (by decide) ?_
    refine lv_istore (lv' := [(4, .int (p_loud (p_goes n r) k)), (0, .ref (t.2.1 0)), (1, .int ((nI k))), (2, .int ((nI w))), (3, .int ((nI n)))]) hx hb dX13_then_36 hl (by decide) rfl (fun ls hl => ?_)
    refine lv_aload_n hx hb dX13_then_38 rfl (lv_at hl 1 rfl) ?_
    refine mg_aside S hK hP dX13_then_39 ?_
    refine lv_aload_n hx hb dX13_then_42 rfl (lv_at hl 1 rfl) ?_
    refine mg_s S hK hP dX13_then_43 ?_
    refine c_copyRow_4_1 S hK hP hS (rm_ok (Nat.le_of_ble_eq_true rfl)) hl.1 (Nat.le_of_ble_eq_true rfl) dX13_then_46 (fun H locs hP hS => ?_)
    refine lv_iload hx hb dX13_then_49 (lv_at hl 0 rfl) ?_
    exact kk_iretW S hr hlk hS (hP) (by unfold p_told; rw [if_pos c_19]) dX13_then_51
set_option maxHeartbeats 4000000 in
set_option maxRecDepth 100000 in
theorem k_clapsThen (l : Launch) (t : MT) (r : Rw) (x : Nat → Rw) (n : Nat) (b : Nat) (hV : pV b r) (hbn : b + n < 2 ^ 30) : Met l yX13_clapsThen (ws_ yX13_clapsThen cX13_clapsThen 3 (some .int)) (rmF 6) (va_Pc [.ref (t.2.1 0), .int (nI n)] (fun U => mK t U ∧ mW t r x U.heap)) (kW (some (.int (p_goes n r 3))) (mW t (r) (va_up x 3 r)) (mA t)) 0 0 (mA t) := by
  refine kk_start (by decide) (Nat.le_of_ble_eq_true rfl) ?_
  intro p e s m below meth c S hr hlk hin hB ls hl
  obtain ⟨hK, hP⟩ := hB
  have hx := S.1
  have hb := S.2.1
  have hown : s.vm.findClass RX13 = some m.cls := S.2.2.2.1
  have hts := S.2.2.2.2
  have hS : va_S (mA t) s.heap s.heap [] := va_S.rf
  have hl : lv_has ls 3 [(0, .ref (t.2.1 0)), (1, .int ((nI n)))] := hl
  refine lv_aload_n hx hb dX13_clapsThen_0 rfl (lv_at hl 0 rfl) ?_
  refine mg_s S hK hP dX13_clapsThen_1 ?_
  refine lv_aload_n hx hb dX13_clapsThen_4 rfl (lv_at hl 0 rfl) ?_
  refine mg_aside S hK hP dX13_clapsThen_5 ?_
  refine c_copyRow_1_4 S hK hP hS (rm_ok (Nat.le_of_ble_eq_true rfl)) hl.1 (Nat.le_of_ble_eq_true rfl) dX13_clapsThen_8 (fun H locs hP hS => ?_)
  refine lv_aload_n hx hb dX13_clapsThen_11 rfl (lv_at hl 0 rfl) ?_
  refine lv_iload_n hx hb dX13_clapsThen_12 rfl (lv_at hl 1 rfl) ?_
  refine c_goes S hK hP hS (rm_ok (Nat.le_of_ble_eq_true rfl)) hl.1 (n) (b) hV (by omega) rfl (Nat.le_of_ble_eq_true rfl) dX13_clapsThen_13 (fun H locs hP hS => ?_)
  have hVg := pV_goes (b := 0) n b r hV (by omega)
  refine lv_aload_n hx hb dX13_clapsThen_16 rfl (lv_at hl 0 rfl) ?_
  refine mg_s S hK hP dX13_clapsThen_17 ?_
  refine lv_iconst (v := 3) hx hb dX13_clapsThen_20 (by decide) ?_
  refine mk_lds S hK hP (3) (by omega) rfl dX13_clapsThen_21 ?_
  refine lv_istore_n (lv' := [(2, .int ((p_goes n r) 3)), (0, .ref (t.2.1 0)), (1, .int ((nI n)))]) hx hb dX13_clapsThen_22 rfl hl (by decide) rfl (fun ls hl => ?_)
  refine lv_aload_n hx hb dX13_clapsThen_23 rfl (lv_at hl 1 rfl) ?_
  refine mg_aside S hK hP dX13_clapsThen_24 ?_
  refine lv_aload_n hx hb dX13_clapsThen_27 rfl (lv_at hl 1 rfl) ?_
  refine mg_s S hK hP dX13_clapsThen_28 ?_
  refine c_copyRow_4_1 S hK hP hS (rm_ok (Nat.le_of_ble_eq_true rfl)) hl.1 (Nat.le_of_ble_eq_true rfl) dX13_clapsThen_31 (fun H locs hP hS => ?_)
  refine lv_iload_n hx hb dX13_clapsThen_34 rfl (lv_at hl 0 rfl) ?_
  exact kk_iretW S hr hlk hS (hP) (rfl) dX13_clapsThen_35
section MC
variable {p : Program} {l : Launch} {e : Env} {R : Room} {s : State} {m : MethodId} {args : Array Value} {below : List Frame} {meth : Method} {c : Code} {H H0 : Heap} {locs : List Loc} {cells slots : Nat} {Q : State → Prop}
variable {cc : ByteArray} {pc nL : Nat} {ls : Array Slot} {rest : List Value} {t : MT} {r : Rw} {x : Nat → Rw}
theorem c_then (S : CallFix p m c cc nL s args lw_all RX13) (hK : mK t s) (hP : mW t r x H) (hS : va_S (mA t) H0 H locs) (hR : kRm R 7 cells slots) (hsz : ls.size = nL) (k : Nat) (w : Nat) (n : Nat) (b : Nat) (hk : k < 8) (hw : w ≤ 7) (hV : pV b r) (hbn : b + n < 2 ^ 30) {i0 : Int32} (e0 : i0 = nI k) {i1 : Int32} (e1 : i1 = nI w) {i2 : Int32} (e2 : i2 = nI n) (hrest : (rest.map fun v => v.category).sum ≤ 8) (hdg : decode cc pc = .ok (.invokevirtual 150, 3)) (kk : ∀ (H1 : Heap) (locs1 : List Loc), mW t (r) (va_up x 3 r) H1 → va_S (mA t) H0 H1 locs1 → W p l e R s m args below meth c H1 locs1 cells slots Q (F0 m (pc + 3) ls (.int (p_told (p_goes n r) k w) :: rest))) : W p l e R s m args below meth c H locs cells slots Q (F0 m pc ls (.int i2 :: .int i1 :: .int i0 :: .ref (t.2.1 0) :: rest)) := by
  subst e0
  subst e1
  subst e2
  exact kk_Wi (W.runV (As := [.int (nI k), .int (nI w), .int (nI n)]) (rest := rest) S (k_then l t r x k w n b hk hw hV hbn) (cwV 3 S.2.2.2.2 (lw_V q1443 q1445 qs75 q117 q1446) rfl rfl rfl (by decide +kernel) ⟨hR.1, by have := hR.2.1; show 8 + (5 + 11) + 38 * 6 ≤ R.locals; omega⟩) ⟨m_blind, m_recv hK hP, m_pre hK hP⟩ rfl rfl hsz rfl (lv_room hrest) hdg ⟨hR.2.2.1, hR.2.2.2⟩) hS (fun _ h => h) (fun _ h => h) (fun H1 locs1 hB _ _ hS => kk H1 locs1 hB hS)
theorem c_clapsThen (S : CallFix p m c cc nL s args lw_all RX13) (hK : mK t s) (hP : mW t r x H) (hS : va_S (mA t) H0 H locs) (hR : kRm R 7 cells slots) (hsz : ls.size = nL) (n : Nat) (b : Nat) (hV : pV b r) (hbn : b + n < 2 ^ 30) {i0 : Int32} (e0 : i0 = nI n) (hrest : (rest.map fun v => v.category).sum ≤ 8) (hdg : decode cc pc = .ok (.invokevirtual 154, 3)) (kk : ∀ (H1 : Heap) (locs1 : List Loc), mW t (r) (va_up x 3 r) H1 → va_S (mA t) H0 H1 locs1 → W p l e R s m args below meth c H1 locs1 cells slots Q (F0 m (pc + 3) ls (.int (p_goes n r 3) :: rest))) : W p l e R s m args below meth c H locs cells slots Q (F0 m pc ls (.int i0 :: .ref (t.2.1 0) :: rest)) := by
  subst e0
  exact kk_Wi (W.runV (As := [.int (nI n)]) (rest := rest) S (k_clapsThen l t r x n b hV hbn) (cwV 1 S.2.2.2.2 (lw_V q1454 q1456 qs76 q117 q1457) rfl rfl rfl (by decide +kernel) ⟨hR.1, by have := hR.2.1; show 8 + (3 + 11) + 38 * 6 ≤ R.locals; omega⟩) ⟨m_blind, m_recv hK hP, m_pre hK hP⟩ rfl rfl hsz rfl (lv_room hrest) hdg ⟨hR.2.2.1, hR.2.2.2⟩) hS (fun _ h => h) (fun _ h => h) (fun H1 locs1 hB _ _ hS => kk H1 locs1 hB hS)
end MC
set_option maxHeartbeats 4000000 in
set_option maxRecDepth 100000 in
theorem k_claps (l : Launch) (t : MT) (r : Rw) (x : Nat → Rw) (n : Int32) (b : Nat) (hV : pV b r) (hb : b ≤ 99999) : Met l yX13_claps (ws_ yX13_claps cX13_claps 2 (some .int)) (rmF 7) (va_Pc [.ref (t.2.1 0), .int n] (fun U => mK t U ∧ mW t r x U.heap)) (kW (some (.int ((o_claps r n).1))) (fun H => ∃ f, mW t ((o_claps r n).2.1) (va_up (fx x (o_claps r n).2.2) 3 f) H) (mA t)) 0 0 (mA t) := by
  refine kk_start (by decide) (Nat.le_of_ble_eq_true rfl) ?_
  intro p e s m below meth c S hr hlk hin hB ls hl
  obtain ⟨hK, hP⟩ := hB
  have hx := S.1
  have hb := S.2.1
  have hown : s.vm.findClass RX13 = some m.cls := S.2.2.2.1
  have hts := S.2.2.2.2
  have hS : va_S (mA t) s.heap s.heap [] := va_S.rf
  have hl : lv_has ls 2 [(0, .ref (t.2.1 0)), (1, .int (n))] := hl
  refine lv_iload_n hx hb dX13_claps_0 rfl (lv_at hl 1 rfl) ?_
  refine lv_i2l hx hb dX13_claps_1 rfl ?_
  refine lv_lconst (v := (0 : Int32).toInt64) hx hb dX13_claps_2 (by decide) ?_
  refine lv_ldc2 (v := ((100) : Int32).toInt64) hx hb hown (hts _ q1442) dX13_claps_3 ?_
  refine c_isIn S (rm_ok (Nat.le_of_ble_eq_true rfl)) hl.1 (Nat.le_of_ble_eq_true rfl) dX13_claps_6 ?_
  refine kb_ifeq (tgt := 20) S dX13_claps_9 (by decide) (fun c_9 => ?_) (fun c_9 => ?_)
  · skip
    refine lv_aload_n hx hb dX13_claps_20 rfl (lv_at hl 0 rfl) ?_
    refine lv_ldc (v := (-1000001)) hx hb hown (hts _ q1305) dX13_claps_21 ?_
    refine c_finds S hK hP hS (rm_ok (Nat.le_of_ble_eq_true rfl)) hl.1 (0) (by decide) (by decide) (Nat.le_of_ble_eq_true rfl) dX13_claps_23 (fun H locs hP hS => ?_)
    exact kk_iretW S hr hlk hS (by simp only [o_claps, c_9, reduceIte, and_self, oF, oK, fx]; exact mW_a hP) (by simp only [o_claps, c_9, reduceIte, and_self, oF, oK, fnd] <;> first | rfl | decide) dX13_claps_26
  · skip
    obtain ⟨n_, hn_, rfl⟩ := nat_of_le (n := 100) (rfl) (by omega) c_9
    have hcl_n_ := nI_clamp (n := n_) (by omega)
    refine lv_aload_n hx hb dX13_claps_12 rfl (lv_at hl 0 rfl) ?_
    refine lv_iload_n hx hb dX13_claps_13 rfl (lv_at hl 1 rfl) ?_
    refine c_clapsThen S hK hP hS (rm_ok (Nat.le_of_ble_eq_true rfl)) hl.1 (n_) (b) hV (by omega) rfl (Nat.le_of_ble_eq_true rfl) dX13_claps_14 (fun H locs hP hS => ?_)
    refine lv_goto (tgt := 26) hx hb dX13_claps_17 (by decide) ?_
    exact kk_iretW S hr hlk hS (by simp only [o_claps, c_9, hcl_n_, reduceIte, and_self, oF, oK, fx]; exact ⟨_, hP⟩) (by simp only [o_claps, c_9, hcl_n_, reduceIte, and_self, oF, oK, fnd] <;> first | rfl | decide) dX13_claps_26
section MC
variable {p : Program} {l : Launch} {e : Env} {R : Room} {s : State} {m : MethodId} {args : Array Value} {below : List Frame} {meth : Method} {c : Code} {H H0 : Heap} {locs : List Loc} {cells slots : Nat} {Q : State → Prop}
variable {cc : ByteArray} {pc nL : Nat} {ls : Array Slot} {rest : List Value} {t : MT} {r : Rw} {x : Nat → Rw}

end MC

/-! COMPONENT: what is now, what will be -/
theorem lp_congr {α : Type} {f g : Nat → α → α} : ∀ (j k : Nat) (a : α), (∀ i, k ≤ i → i < k + j → ∀ s, f i s = g i s) → lp f j k a = lp g j k a
  | 0, _, _, _ => rfl
  | j + 1, k, a, h => by
    rw [lp, lp, h k (Nat.le_refl _) (by omega)]
    exact lp_congr j (k + 1) _ (fun i h1 h2 => h i (by omega) (by omega))
theorem bit_all : ∀ n, n ≤ 8 → ∀ k, k < n → ((2 ^ n - 1) / 2 ^ k) &&& 1 = 1 := by decide
theorem blend_all {b : Nat} {r : Rw} (hV : pV b r) : p_blend r (2 ^ pN r - 1) = p_sum r 7 :=
  lp_congr _ _ _ (fun i _ h2 s => by rw [if_pos (bit_all _ hV.n.2 i (by omega)), if_pos rfl])
theorem p_until_lt {p : Rw → Bool} : ∀ {j k : Nat} {r : Rw} {i : Nat}, p_until p j k r = some i → i < k + j
  | 0, _, _, _, h => by cases h
  | j + 1, k, r, i, h => by
    rw [p_until] at h
    split at h
    · cases h; omega
    · have := p_until_lt h; omega
set_option maxHeartbeats 4000000 in
set_option maxRecDepth 100000 in
theorem k0_blendOf (l : Launch) (t : CT) (r : Rw) (x : Nat → Rw) (a : Nat) (b : Nat) (hV : pV b r) (ha : a < 2 ^ 31) : Met l yX0_blendOf (ws_ yX0_blendOf cX0_blendOf 4 (some .int)) (rmF 6) (va_Pc [.ref (t.2.1 0), .int (nI a)] (fun U => cK t U ∧ cX t r x U.heap)) (kR (some (.int (p_blend r a)))) 0 0 (fun _ => False) := by
  refine kk_start (by decide) (Nat.le_of_ble_eq_true rfl) ?_
  intro p e s m below meth c S hr hlk hin hB ls hl
  obtain ⟨hK, hP⟩ := hB
  have hx := S.1
  have hb := S.2.1
  have hown : s.vm.findClass RX0 = some m.cls := S.2.2.2.1
  have hts := S.2.2.2.2
  have hl : lv_has ls 4 [(0, .ref (t.2.1 0)), (1, .int ((nI a)))] := hl
  have hn := hV.n.1
  have hn8 := hV.n.2
  refine lv_iconst (v := 0) hx hb dX0_blendOf_0 (by decide) ?_
  refine lv_istore_n (lv' := [(2, .int (0)), (0, .ref (t.2.1 0)), (1, .int ((nI a)))]) hx hb dX0_blendOf_1 rfl hl (by decide) rfl (fun ls hl => ?_)
  refine lv_iconst (v := 0) hx hb dX0_blendOf_2 (by decide) ?_
  refine lv_istore_n (lv' := [(3, .int (0)), (2, .int (0)), (0, .ref (t.2.1 0)), (1, .int ((nI a)))]) hx hb dX0_blendOf_3 rfl hl (by decide) rfl (fun ls hl => ?_)
  have lp_4 : ∀ (j k : Nat) (y : Int32) (ls : Array Slot), k + j = pN r → (lp (fun k s => s + (if (a / 2 ^ k) &&& 1 = 1 then p_loud r k else 0)) j k y = p_blend r a) → lv_has ls 4 [(0, .ref (t.2.1 0)), (1, .int ((nI a))), (2, .int (y)), (3, .int ((nI k)))] → W p l e (rmF 6) s m ([.ref (t.2.1 0), .int (nI a)] : List Value).toArray below meth c s.heap [] 0 0 (MQ below (kR (some (.int (p_blend r a)))) ([.ref (t.2.1 0), .int (nI a)] : List Value).toArray s 0 0 (fun _ => False)) (F0 m 4 ls []) := by
    intro j
    induction j with
    | zero =>
      intro k y ls hkj he hl
      refine lv_iload_n hx hb dX0_blendOf_4 rfl (lv_at hl 3 rfl) ?_
      refine lv_aload_n hx hb dX0_blendOf_5 rfl (lv_at hl 0 rfl) ?_
      refine cg_d S hK hP dX0_blendOf_6 ?_
      refine cd_casks S hK hP dX0_blendOf_9 ?_
      refine kb_ge_n (tgt := 41) (a := k) (b := (pN r)) S rfl hn (by omega) (by omega) dX0_blendOf_12 (by decide) (fun c_12 => ?_) (fun c_12 => ?_)
      · skip
        refine lv_iload_n hx hb dX0_blendOf_41 rfl (lv_at hl 2 rfl) ?_
        exact kk_iretR S hr hlk rfl rfl (by rw [← he]; rfl) dX0_blendOf_42
      · exact absurd c_12 (by omega)
    | succ j ih =>
      intro k y ls hkj he hl
      have ih_4 := ih
      refine lv_iload_n hx hb dX0_blendOf_4 rfl (lv_at hl 3 rfl) ?_
      refine lv_aload_n hx hb dX0_blendOf_5 rfl (lv_at hl 0 rfl) ?_
      refine cg_d S hK hP dX0_blendOf_6 ?_
      refine cd_casks S hK hP dX0_blendOf_9 ?_
      refine kb_ge_n (tgt := 41) (a := k) (b := (pN r)) S rfl hn (by omega) (by omega) dX0_blendOf_12 (by decide) (fun c_12 => ?_) (fun c_12 => ?_)
      · exact absurd c_12 (by omega)
      · skip
        refine lv_iload_n hx hb dX0_blendOf_15 rfl (lv_at hl 2 rfl) ?_
        refine lv_iload_n hx hb dX0_blendOf_16 rfl (lv_at hl 1 rfl) ?_
        refine lv_iload_n hx hb dX0_blendOf_17 rfl (lv_at hl 3 rfl) ?_
        refine cc_has S (rm_ok (Nat.le_of_ble_eq_true rfl)) hl.1 (a) (k) (by omega) (by omega) rfl rfl (Nat.le_of_ble_eq_true rfl) dX0_blendOf_18 ?_
        refine kb_ifeq (tgt := 32) S dX0_blendOf_21 (by decide) (fun c_21 => ?_) (fun c_21 => ?_)
        · skip
          refine lv_iconst (v := 0) hx hb dX0_blendOf_32 (by decide) ?_
          refine lv_iadd hx hb dX0_blendOf_33 ?_
          refine lv_istore_n (lv' := [(2, .int ((y + 0))), (0, .ref (t.2.1 0)), (1, .int ((nI a))), (3, .int ((nI k)))]) hx hb dX0_blendOf_34 rfl hl (by decide) rfl (fun ls hl => ?_)
          refine lv_iinc (v := (nI (k + 1))) (lv' := [(3, .int ((nI (k + 1)))), (2, .int ((y + 0))), (0, .ref (t.2.1 0)), (1, .int ((nI a)))]) hx hb dX0_blendOf_35 hl (k := 3) rfl (nn_1 rfl) (by decide) rfl (fun ls hl => ?_)
          refine lv_goto (tgt := 4) hx hb dX0_blendOf_38 (by decide) ?_
          exact ih_4 ((k + 1)) _ ls (by omega) (by have h := he; simp only [lp] at h; rw [if_neg c_21] at h; exact h) (lv_sub hl [2, 3, 1, 0] rfl)
        · skip
          refine lv_aload_n hx hb dX0_blendOf_24 rfl (lv_at hl 0 rfl) ?_
          refine lv_iload_n hx hb dX0_blendOf_25 rfl (lv_at hl 3 rfl) ?_
          refine cc_loudOf S hK hP (rm_ok (Nat.le_of_ble_eq_true rfl)) hl.1 (k) (b) (by omega) hV rfl (Nat.le_of_ble_eq_true rfl) dX0_blendOf_26 ?_
          refine lv_goto (tgt := 33) hx hb dX0_blendOf_29 (by decide) ?_
          refine lv_iadd hx hb dX0_blendOf_33 ?_
          refine lv_istore_n (lv' := [(2, .int ((y + p_loud r k))), (0, .ref (t.2.1 0)), (1, .int ((nI a))), (3, .int ((nI k)))]) hx hb dX0_blendOf_34 rfl hl (by decide) rfl (fun ls hl => ?_)
          refine lv_iinc (v := (nI (k + 1))) (lv' := [(3, .int ((nI (k + 1)))), (2, .int ((y + p_loud r k))), (0, .ref (t.2.1 0)), (1, .int ((nI a)))]) hx hb dX0_blendOf_35 hl (k := 3) rfl (nn_1 rfl) (by decide) rfl (fun ls hl => ?_)
          refine lv_goto (tgt := 4) hx hb dX0_blendOf_38 (by decide) ?_
          exact ih_4 ((k + 1)) _ ls (by omega) (by have h := he; simp only [lp] at h; rw [if_pos c_21] at h; exact h) (lv_sub hl [2, 3, 1, 0] rfl)
  exact lp_4 (pN r) 0 _ ls (by omega) (rfl) (lv_sub hl [2, 3, 1, 0] rfl)
set_option maxHeartbeats 4000000 in
set_option maxRecDepth 100000 in
theorem k0_tooLoud (l : Launch) (t : CT) (r : Rw) (x : Nat → Rw) (b : Nat) (hV : pV b r) : Met l yX0_tooLoud (ws_ yX0_tooLoud cX0_tooLoud 3 (some .int)) (rmF 6) (va_Pc [.ref (t.2.1 0)] (fun U => cK t U ∧ cX t r x U.heap)) (kR (some (.int (nI (p_so r))))) 0 0 (fun _ => False) := by
  refine kk_start (by decide) (Nat.le_of_ble_eq_true rfl) ?_
  intro p e s m below meth c S hr hlk hin hB ls hl
  obtain ⟨hK, hP⟩ := hB
  have hx := S.1
  have hb := S.2.1
  have hown : s.vm.findClass RX0 = some m.cls := S.2.2.2.1
  have hts := S.2.2.2.2
  have hl : lv_has ls 3 [(0, .ref (t.2.1 0))] := hl
  have hn := hV.n.1
  have hn8 := hV.n.2
  refine lv_iconst (v := 0) hx hb dX0_tooLoud_0 (by decide) ?_
  refine lv_istore_n (lv' := [(1, .int (0)), (0, .ref (t.2.1 0))]) hx hb dX0_tooLoud_1 rfl hl (by decide) rfl (fun ls hl => ?_)
  refine lv_iconst (v := 0) hx hb dX0_tooLoud_2 (by decide) ?_
  refine lv_istore_n (lv' := [(2, .int (0)), (1, .int (0)), (0, .ref (t.2.1 0))]) hx hb dX0_tooLoud_3 rfl hl (by decide) rfl (fun ls hl => ?_)
  have lp_4 : ∀ (j k : Nat) (a : Nat) (ls : Array Slot), k + j = pN r → (lp (fun k a => a ||| (if p_over r k = true then 2 ^ k else 0)) j k a = p_so r) → lv_has ls 3 [(0, .ref (t.2.1 0)), (1, .int ((nI a))), (2, .int ((nI k)))] → W p l e (rmF 6) s m ([.ref (t.2.1 0)] : List Value).toArray below meth c s.heap [] 0 0 (MQ below (kR (some (.int (nI (p_so r))))) ([.ref (t.2.1 0)] : List Value).toArray s 0 0 (fun _ => False)) (F0 m 4 ls []) := by
    intro j
    induction j with
    | zero =>
      intro k a ls hkj he hl
      refine lv_iload_n hx hb dX0_tooLoud_4 rfl (lv_at hl 2 rfl) ?_
      refine lv_aload_n hx hb dX0_tooLoud_5 rfl (lv_at hl 0 rfl) ?_
      refine cg_d S hK hP dX0_tooLoud_6 ?_
      refine cd_casks S hK hP dX0_tooLoud_9 ?_
      refine kb_ge_n (tgt := 39) (a := k) (b := (pN r)) S rfl hn (by omega) (by omega) dX0_tooLoud_12 (by decide) (fun c_12 => ?_) (fun c_12 => ?_)
      · skip
        refine lv_iload_n hx hb dX0_tooLoud_39 rfl (lv_at hl 1 rfl) ?_
        exact kk_iretR S hr hlk rfl rfl (by rw [← he]; rfl) dX0_tooLoud_40
      · exact absurd c_12 (by omega)
    | succ j ih =>
      intro k a ls hkj he hl
      have ih_4 := ih
      refine lv_iload_n hx hb dX0_tooLoud_4 rfl (lv_at hl 2 rfl) ?_
      refine lv_aload_n hx hb dX0_tooLoud_5 rfl (lv_at hl 0 rfl) ?_
      refine cg_d S hK hP dX0_tooLoud_6 ?_
      refine cd_casks S hK hP dX0_tooLoud_9 ?_
      refine kb_ge_n (tgt := 39) (a := k) (b := (pN r)) S rfl hn (by omega) (by omega) dX0_tooLoud_12 (by decide) (fun c_12 => ?_) (fun c_12 => ?_)
      · exact absurd c_12 (by omega)
      · skip
        refine lv_iload_n hx hb dX0_tooLoud_15 rfl (lv_at hl 1 rfl) ?_
        refine lv_aload_n hx hb dX0_tooLoud_16 rfl (lv_at hl 0 rfl) ?_
        refine lv_iload_n hx hb dX0_tooLoud_17 rfl (lv_at hl 2 rfl) ?_
        refine cc_isTooLoud S hK hP (rm_ok (Nat.le_of_ble_eq_true rfl)) hl.1 (k) (b) (by omega) hV rfl (Nat.le_of_ble_eq_true rfl) dX0_tooLoud_18 ?_
        refine kb_ifeq (tgt := 30) S dX0_tooLoud_21 (by decide) (fun c_21 => ?_) (fun c_21 => ?_)
        · skip
          refine lv_iconst (v := 0) hx hb dX0_tooLoud_30 (by decide) ?_
          refine lv_ior hx hb dX0_tooLoud_31 ?_
          refine kb_nat (y := nI ((a ||| 0))) (nn_or rfl rfl) ?_
          refine lv_istore_n (lv' := [(1, .int ((nI (a ||| 0)))), (0, .ref (t.2.1 0)), (2, .int ((nI k)))]) hx hb dX0_tooLoud_32 rfl hl (by decide) rfl (fun ls hl => ?_)
          refine lv_iinc (v := (nI (k + 1))) (lv' := [(2, .int ((nI (k + 1)))), (1, .int ((nI (a ||| 0)))), (0, .ref (t.2.1 0))]) hx hb dX0_tooLoud_33 hl (k := 2) rfl (nn_1 rfl) (by decide) rfl (fun ls hl => ?_)
          refine lv_goto (tgt := 4) hx hb dX0_tooLoud_36 (by decide) ?_
          exact ih_4 ((k + 1)) ((a ||| 0)) ls (by omega) (by have h := he; simp only [lp] at h; rw [if_neg c_21] at h; exact h) (lv_sub hl [2, 1, 0] rfl)
        · skip
          refine lv_iconst (v := 1) hx hb dX0_tooLoud_24 (by decide) ?_
          refine lv_iload_n hx hb dX0_tooLoud_25 rfl (lv_at hl 2 rfl) ?_
          refine lv_ishl hx hb dX0_tooLoud_26 ?_
          refine lv_goto (tgt := 31) hx hb dX0_tooLoud_27 (by decide) ?_
          refine lv_ior hx hb dX0_tooLoud_31 ?_
          refine kb_nat (y := nI ((a ||| (2 ^ k)))) (nn_or rfl (nn_shl1 _ (by omega))) ?_
          refine lv_istore_n (lv' := [(1, .int ((nI (a ||| (2 ^ k))))), (0, .ref (t.2.1 0)), (2, .int ((nI k)))]) hx hb dX0_tooLoud_32 rfl hl (by decide) rfl (fun ls hl => ?_)
          refine lv_iinc (v := (nI (k + 1))) (lv' := [(2, .int ((nI (k + 1)))), (1, .int ((nI (a ||| (2 ^ k))))), (0, .ref (t.2.1 0))]) hx hb dX0_tooLoud_33 hl (k := 2) rfl (nn_1 rfl) (by decide) rfl (fun ls hl => ?_)
          refine lv_goto (tgt := 4) hx hb dX0_tooLoud_36 (by decide) ?_
          exact ih_4 ((k + 1)) ((a ||| (2 ^ k))) ls (by omega) (by have h := he; simp only [lp] at h; rw [if_pos c_21] at h; exact h) (lv_sub hl [2, 1, 0] rfl)
  exact lp_4 (pN r) 0 (0) ls (by omega) (rfl) (lv_sub hl [2, 1, 0] rfl)
set_option maxHeartbeats 4000000 in
set_option maxRecDepth 100000 in
theorem k0_loudest (l : Launch) (t : CT) (r : Rw) (x : Nat → Rw) (b : Nat) (hV : pV b r) : Met l yX0_loudest (ws_ yX0_loudest cX0_loudest 3 (some .int)) (rmF 6) (va_Pc [.ref (t.2.1 0)] (fun U => cK t U ∧ cX t r x U.heap)) (kR (some (.int (oi (p_lst r))))) 0 0 (fun _ => False) := by
  refine kk_start (by decide) (Nat.le_of_ble_eq_true rfl) ?_
  intro p e s m below meth c S hr hlk hin hB ls hl
  obtain ⟨hK, hP⟩ := hB
  have hx := S.1
  have hb := S.2.1
  have hown : s.vm.findClass RX0 = some m.cls := S.2.2.2.1
  have hts := S.2.2.2.2
  have hl : lv_has ls 3 [(0, .ref (t.2.1 0))] := hl
  have hn := hV.n.1
  have hn8 := hV.n.2
  refine lv_iconst (v := (-1)) hx hb dX0_loudest_0 (by decide) ?_
  refine lv_istore_n (lv' := [(1, .int ((-1))), (0, .ref (t.2.1 0))]) hx hb dX0_loudest_1 rfl hl (by decide) rfl (fun ls hl => ?_)
  refine lv_iconst (v := 0) hx hb dX0_loudest_2 (by decide) ?_
  refine lv_istore_n (lv' := [(2, .int (0)), (1, .int ((-1))), (0, .ref (t.2.1 0))]) hx hb dX0_loudest_3 rfl hl (by decide) rfl (fun ls hl => ?_)
  have lp_4 : ∀ (j k : Nat) (bb : Option Nat) (ls : Array Slot), k + j = pN r → (lp (p_lstf r) j k bb = p_lst r) → (∀ i, bb = some i → i < 8) → lv_has ls 3 [(0, .ref (t.2.1 0)), (1, .int ((oi bb))), (2, .int ((nI k)))] → W p l e (rmF 6) s m ([.ref (t.2.1 0)] : List Value).toArray below meth c s.heap [] 0 0 (MQ below (kR (some (.int (oi (p_lst r))))) ([.ref (t.2.1 0)] : List Value).toArray s 0 0 (fun _ => False)) (F0 m 4 ls []) := by
    intro j
    induction j with
    | zero =>
      intro k bb ls hkj he hb8 hl
      refine lv_iload_n hx hb dX0_loudest_4 rfl (lv_at hl 2 rfl) ?_
      refine lv_aload_n hx hb dX0_loudest_5 rfl (lv_at hl 0 rfl) ?_
      refine cg_d S hK hP dX0_loudest_6 ?_
      refine cd_casks S hK hP dX0_loudest_9 ?_
      refine kb_ge_n (tgt := 45) (a := k) (b := (pN r)) S rfl hn (by omega) (by omega) dX0_loudest_12 (by decide) (fun c_12 => ?_) (fun c_12 => ?_)
      · skip
        refine lv_iload_n hx hb dX0_loudest_45 rfl (lv_at hl 1 rfl) ?_
        exact kk_iretR S hr hlk rfl rfl (by rw [← he]; rfl) dX0_loudest_46
      · exact absurd c_12 (by omega)
    | succ j ih =>
      intro k bb ls hkj he hb8 hl
      have ih_4 := ih
      refine lv_iload_n hx hb dX0_loudest_4 rfl (lv_at hl 2 rfl) ?_
      refine lv_aload_n hx hb dX0_loudest_5 rfl (lv_at hl 0 rfl) ?_
      refine cg_d S hK hP dX0_loudest_6 ?_
      refine cd_casks S hK hP dX0_loudest_9 ?_
      refine kb_ge_n (tgt := 45) (a := k) (b := (pN r)) S rfl hn (by omega) (by omega) dX0_loudest_12 (by decide) (fun c_12 => ?_) (fun c_12 => ?_)
      · exact absurd c_12 (by omega)
      · skip
        refine lv_iload_n hx hb dX0_loudest_15 rfl (lv_at hl 1 rfl) ?_
        refine lv_iconst (v := (-1)) hx hb dX0_loudest_16 (by decide) ?_
        refine kb_eq_o (tgt := 33) S dX0_loudest_17 (by decide) (fun c_17 => ?_) (fun c_17 => ?_) (fun i hi => Nat.lt_trans (hb8 i hi) (by decide))
        · skip
          subst c_17
          refine lv_iload_n hx hb dX0_loudest_33 rfl (lv_at hl 2 rfl) ?_
          refine lv_goto (tgt := 38) hx hb dX0_loudest_34 (by decide) ?_
          refine lv_istore_n (lv' := [(1, .int ((nI k))), (0, .ref (t.2.1 0)), (2, .int ((nI k)))]) hx hb dX0_loudest_38 rfl hl (by decide) rfl (fun ls hl => ?_)
          refine lv_iinc (v := (nI (k + 1))) (lv' := [(2, .int ((nI (k + 1)))), (1, .int ((nI k))), (0, .ref (t.2.1 0))]) hx hb dX0_loudest_39 hl (k := 2) rfl (nn_1 rfl) (by decide) rfl (fun ls hl => ?_)
          refine lv_goto (tgt := 4) hx hb dX0_loudest_42 (by decide) ?_
          exact ih_4 ((k + 1)) (some (k)) ls (by omega) (by have h := he; rw [lp, p_lstf] at h; exact h) (by first | exact hb8 | (intro i hi; cases hi; omega)) (lv_sub hl [2, 1, 0] rfl)
        · skip
          obtain ⟨bb_17, rfl⟩ := c_17
          have hbb_17 := hb8 _ rfl
          refine lv_aload_n hx hb dX0_loudest_20 rfl (lv_at hl 0 rfl) ?_
          refine lv_iload_n hx hb dX0_loudest_21 rfl (lv_at hl 2 rfl) ?_
          refine cc_loudOf S hK hP (rm_ok (Nat.le_of_ble_eq_true rfl)) hl.1 (k) (b) (by omega) hV rfl (Nat.le_of_ble_eq_true rfl) dX0_loudest_22 ?_
          refine lv_aload_n hx hb dX0_loudest_25 rfl (lv_at hl 0 rfl) ?_
          refine lv_iload_n hx hb dX0_loudest_26 rfl (lv_at hl 1 rfl) ?_
          refine cc_loudOf S hK hP (rm_ok (Nat.le_of_ble_eq_true rfl)) hl.1 (bb_17) (b) (by omega) hV (oi_some _) (Nat.le_of_ble_eq_true rfl) dX0_loudest_27 ?_
          refine lv_icmp_le (tgt := 37) hx hb dX0_loudest_30 (by decide) (fun c_30 => ?_) (fun c_30 => ?_)
          · skip
            refine lv_iload_n hx hb dX0_loudest_37 rfl (lv_at hl 1 rfl) ?_
            refine kb_nat (y := nI (bb_17)) (oi_some _) ?_
            refine lv_istore_n (lv' := [(1, .int ((nI bb_17))), (0, .ref (t.2.1 0)), (2, .int ((nI k)))]) hx hb dX0_loudest_38 rfl hl (by decide) rfl (fun ls hl => ?_)
            refine lv_iinc (v := (nI (k + 1))) (lv' := [(2, .int ((nI (k + 1)))), (1, .int ((nI bb_17))), (0, .ref (t.2.1 0))]) hx hb dX0_loudest_39 hl (k := 2) rfl (nn_1 rfl) (by decide) rfl (fun ls hl => ?_)
            refine lv_goto (tgt := 4) hx hb dX0_loudest_42 (by decide) ?_
            exact ih_4 ((k + 1)) (some (bb_17)) ls (by omega) (by have h := he; rw [lp, p_lstf] at h; rw [if_neg (Int32.not_lt.mpr c_30)] at h; exact h) (by first | exact hb8 | (intro i hi; cases hi; omega)) (lv_sub hl [2, 1, 0] rfl)
          · skip
            refine lv_iload_n hx hb dX0_loudest_33 rfl (lv_at hl 2 rfl) ?_
            refine lv_goto (tgt := 38) hx hb dX0_loudest_34 (by decide) ?_
            refine lv_istore_n (lv' := [(1, .int ((nI k))), (0, .ref (t.2.1 0)), (2, .int ((nI k)))]) hx hb dX0_loudest_38 rfl hl (by decide) rfl (fun ls hl => ?_)
            refine lv_iinc (v := (nI (k + 1))) (lv' := [(2, .int ((nI (k + 1)))), (1, .int ((nI k))), (0, .ref (t.2.1 0))]) hx hb dX0_loudest_39 hl (k := 2) rfl (nn_1 rfl) (by decide) rfl (fun ls hl => ?_)
            refine lv_goto (tgt := 4) hx hb dX0_loudest_42 (by decide) ?_
            exact ih_4 ((k + 1)) (some (k)) ls (by omega) (by have h := he; rw [lp, p_lstf] at h; rw [if_pos (Int32.not_le.mp c_30)] at h; exact h) (by first | exact hb8 | (intro i hi; cases hi; omega)) (lv_sub hl [2, 1, 0] rfl)
  exact lp_4 (pN r) 0 none ls (by omega) (rfl) (fun _ h => by cases h) (lv_sub hl [2, 1, 0] rfl)
section CC
variable {p : Program} {l : Launch} {e : Env} {R : Room} {s : State} {m : MethodId} {args : Array Value} {below : List Frame} {meth : Method} {c : Code} {H H0 : Heap} {locs : List Loc} {cells slots : Nat} {Q : State → Prop}
variable {cc : ByteArray} {pc nL : Nat} {ls : Array Slot} {rest : List Value} {t : CT} {r : Rw} {x : Nat → Rw}
theorem cc_blendOf (S : CallFix p m c cc nL s args lw_all RX0) (hK : cK t s) (hP : cX t r x H) (hR : kRm R 7 cells slots) (hsz : ls.size = nL) (a : Nat) (b : Nat) (hV : pV b r) (ha : a < 2 ^ 31) {i0 : Int32} (e0 : i0 = nI a) (hrest : (rest.map fun v => v.category).sum ≤ 8) (hdg : decode cc pc = .ok (.invokevirtual 215, 3)) (kk : W p l e R s m args below meth c H locs cells slots Q (F0 m (pc + 3) ls (.int (p_blend r a) :: rest))) : W p l e R s m args below meth c H locs cells slots Q (F0 m pc ls (.int i0 :: .ref (t.2.1 0) :: rest)) := by
  subst e0
  exact kk_Ri (W.runV (As := [.int (nI a)]) (rest := rest) S (k0_blendOf l t r x a b hV ha) (cwV 1 S.2.2.2.2 (lw_V q783 q785 qs12 q101 q786) rfl rfl rfl (by decide +kernel) ⟨hR.1, by have := hR.2.1; show 8 + (4 + 11) + 38 * 6 ≤ R.locals; omega⟩) ⟨c_blind, c_recv hK hP, c_pre hK hP⟩ rfl rfl hsz rfl (lv_room hrest) hdg ⟨hR.2.2.1, hR.2.2.2⟩) kk
theorem cc_tooLoud (S : CallFix p m c cc nL s args lw_all RX0) (hK : cK t s) (hP : cX t r x H) (hR : kRm R 7 cells slots) (hsz : ls.size = nL) (b : Nat) (hV : pV b r) (hrest : (rest.map fun v => v.category).sum ≤ 8) (hdg : decode cc pc = .ok (.invokevirtual 218, 3)) (kk : W p l e R s m args below meth c H locs cells slots Q (F0 m (pc + 3) ls (.int (nI (p_so r)) :: rest))) : W p l e R s m args below meth c H locs cells slots Q (F0 m pc ls (.ref (t.2.1 0) :: rest)) := by
  exact kk_Ri (W.runV (As := []) (rest := rest) S (k0_tooLoud l t r x b hV) (cwV 0 S.2.2.2.2 (lw_V q790 q792 qs13 q101 q793) rfl rfl rfl (by decide +kernel) ⟨hR.1, by have := hR.2.1; show 8 + (3 + 11) + 38 * 6 ≤ R.locals; omega⟩) ⟨c_blind, c_recv hK hP, c_pre hK hP⟩ rfl rfl hsz rfl (lv_room hrest) hdg ⟨hR.2.2.1, hR.2.2.2⟩) kk
theorem cc_loudest (S : CallFix p m c cc nL s args lw_all RX0) (hK : cK t s) (hP : cX t r x H) (hR : kRm R 7 cells slots) (hsz : ls.size = nL) (b : Nat) (hV : pV b r) (hrest : (rest.map fun v => v.category).sum ≤ 8) (hdg : decode cc pc = .ok (.invokevirtual 221, 3)) (kk : W p l e R s m args below meth c H locs cells slots Q (F0 m (pc + 3) ls (.int (oi (p_lst r)) :: rest))) : W p l e R s m args below meth c H locs cells slots Q (F0 m pc ls (.ref (t.2.1 0) :: rest)) := by
  exact kk_Ri (W.runV (As := []) (rest := rest) S (k0_loudest l t r x b hV) (cwV 0 S.2.2.2.2 (lw_V q794 q796 qs14 q101 q797) rfl rfl rfl (by decide +kernel) ⟨hR.1, by have := hR.2.1; show 8 + (3 + 11) + 38 * 6 ≤ R.locals; omega⟩) ⟨c_blind, c_recv hK hP, c_pre hK hP⟩ rfl rfl hsz rfl (lv_room hrest) hdg ⟨hR.2.2.1, hR.2.2.2⟩) kk
end CC
set_option maxHeartbeats 4000000 in
set_option maxRecDepth 100000 in
theorem k0_now (l : Launch) (t : CT) (r : Rw) (x : Nat → Rw) (w : Int32) (b : Nat) (hV : pV b r) : Met l yX0_now (ws_ yX0_now cX0_now 2 (some .int)) (rmF 7) (va_Pc [.ref (t.2.1 0), .int w] (fun U => cK t U ∧ cX t r x U.heap)) (kW (some (.int ((o_now r w).1))) (cX t ((o_now r w).2.1) (fx x (o_now r w).2.2)) (cA t)) 0 0 (cA t) := by
  refine kk_start (by decide) (Nat.le_of_ble_eq_true rfl) ?_
  intro p e s m below meth c S hr hlk hin hB ls hl
  obtain ⟨hK, hP⟩ := hB
  have hx := S.1
  have hb := S.2.1
  have hown : s.vm.findClass RX0 = some m.cls := S.2.2.2.1
  have hts := S.2.2.2.2
  have hS : va_S (cA t) s.heap s.heap [] := va_S.rf
  have hl : lv_has ls 2 [(0, .ref (t.2.1 0)), (1, .int (w))] := hl
  have hn := hV.n.1
  have hn8 := hV.n.2
  have h2n := p2_le hn8
  have h2p := p2_pos (pN r)
  refine lv_iload_n hx hb dX0_now_0 rfl (lv_at hl 1 rfl) ?_
  by_cases c_1 : 0 ≤ w ∧ w < 7
  · skip
    obtain ⟨w_, hw_, rfl⟩ := nat_of_lt (n := 7) rfl (by omega) c_1
    have hcl_w_ := nI_clamp (n := w_) (by omega)
    rcases (show w_ = 0 ∨ w_ = 1 ∨ w_ = 2 ∨ w_ = 3 ∨ w_ = 4 ∨ w_ = 5 ∨ w_ = 6 by omega) with k_1 | k_1 | k_1 | k_1 | k_1 | k_1 | k_1
    · skip
      refine kb_tabIn (tgt := 44) S ((rfl).trans (congrArg nI k_1)) (by decide) dX0_now_1 (by decide) (by decide) rfl (by decide) ?_
      subst k_1
      refine lv_aload_n hx hb dX0_now_44 rfl (lv_at hl 0 rfl) ?_
      refine cg_d S hK hP dX0_now_45 ?_
      refine cd_day S hK hP dX0_now_48 ?_
      have ho : o_now r (nI 0) = (r 1, r, none) := by first | (simp only [o_now, c_1, hcl_w_, reduceIte, and_self, oF, oK]; done) | (simp [o_now, oF, oK, fnd, c_1, hcl_w_]; done) | (unfold o_now oF oK; grind)
      exact kk_iretW S hr hlk hS (by rw [ho]; exact hP) (by rw [ho]) dX0_now_51
    · skip
      refine kb_tabIn (tgt := 52) S ((rfl).trans (congrArg nI k_1)) (by decide) dX0_now_1 (by decide) (by decide) rfl (by decide) ?_
      subst k_1
      refine lv_aload_n hx hb dX0_now_52 rfl (lv_at hl 0 rfl) ?_
      refine cg_d S hK hP dX0_now_53 ?_
      refine cd_claps S hK hP dX0_now_56 ?_
      have ho : o_now r (nI 1) = (r 3, r, none) := by first | (simp only [o_now, c_1, hcl_w_, reduceIte, and_self, oF, oK]; done) | (simp [o_now, oF, oK, fnd, c_1, hcl_w_]; done) | (unfold o_now oF oK; grind)
      exact kk_iretW S hr hlk hS (by rw [ho]; exact hP) (by rw [ho]) dX0_now_59
    · skip
      refine kb_tabIn (tgt := 60) S ((rfl).trans (congrArg nI k_1)) (by decide) dX0_now_1 (by decide) (by decide) rfl (by decide) ?_
      subst k_1
      refine lv_aload_n hx hb dX0_now_60 rfl (lv_at hl 0 rfl) ?_
      refine cg_d S hK hP dX0_now_61 ?_
      refine lv_iconst (v := 2) hx hb dX0_now_64 (by decide) ?_
      refine d0_sumOf S hK hP (rm_ok (Nat.le_of_ble_eq_true rfl)) hl.1 (2) (b) hV (by omega) rfl (Nat.le_of_ble_eq_true rfl) dX0_now_65 ?_
      have ho : o_now r (nI 2) = (p_sum r 2, r, none) := by first | (simp only [o_now, c_1, hcl_w_, reduceIte, and_self, oF, oK]; done) | (simp [o_now, oF, oK, fnd, c_1, hcl_w_]; done) | (unfold o_now oF oK; grind)
      exact kk_iretW S hr hlk hS (by rw [ho]; exact hP) (by rw [ho]) dX0_now_68
    · skip
      refine kb_tabIn (tgt := 69) S ((rfl).trans (congrArg nI k_1)) (by decide) dX0_now_1 (by decide) (by decide) rfl (by decide) ?_
      subst k_1
      refine lv_aload_n hx hb dX0_now_69 rfl (lv_at hl 0 rfl) ?_
      refine lv_aload_n hx hb dX0_now_70 rfl (lv_at hl 0 rfl) ?_
      refine cg_d S hK hP dX0_now_71 ?_
      refine d0_all S hK hP (rm_ok (Nat.le_of_ble_eq_true rfl)) hl.1 (b) hV (Nat.le_of_ble_eq_true rfl) dX0_now_74 ?_
      refine cc_blendOf S hK hP (rm_ok (Nat.le_of_ble_eq_true rfl)) hl.1 ((2 ^ pN r - 1)) (b) hV (by omega) rfl (Nat.le_of_ble_eq_true rfl) dX0_now_77 ?_
      have ho : o_now r (nI 3) = (p_blend r (2 ^ pN r - 1), r, none) := by first | (simp only [o_now, c_1, hcl_w_, reduceIte, and_self, oF, oK, blend_all hV]) | (simp only [o_now, c_1, hcl_w_, reduceIte, and_self, oF, oK]; done) | (simp [o_now, oF, oK, fnd, c_1, hcl_w_]; done) | (unfold o_now oF oK; grind)
      exact kk_iretW S hr hlk hS (by rw [ho]; exact hP) (by rw [ho]) dX0_now_80
    · skip
      refine kb_tabIn (tgt := 81) S ((rfl).trans (congrArg nI k_1)) (by decide) dX0_now_1 (by decide) (by decide) rfl (by decide) ?_
      subst k_1
      refine lv_aload_n hx hb dX0_now_81 rfl (lv_at hl 0 rfl) ?_
      refine cc_tooLoud S hK hP (rm_ok (Nat.le_of_ble_eq_true rfl)) hl.1 (b) hV (Nat.le_of_ble_eq_true rfl) dX0_now_82 ?_
      have ho : o_now r (nI 4) = (nI (p_so r), r, none) := by first | (simp only [o_now, c_1, hcl_w_, reduceIte, and_self, oF, oK]; done) | (simp [o_now, oF, oK, fnd, c_1, hcl_w_]; done) | (unfold o_now oF oK; grind)
      exact kk_iretW S hr hlk hS (by rw [ho]; exact hP) (by rw [ho]) dX0_now_85
    · skip
      refine kb_tabIn (tgt := 86) S ((rfl).trans (congrArg nI k_1)) (by decide) dX0_now_1 (by decide) (by decide) rfl (by decide) ?_
      subst k_1
      refine lv_aload_n hx hb dX0_now_86 rfl (lv_at hl 0 rfl) ?_
      refine cc_loudest S hK hP (rm_ok (Nat.le_of_ble_eq_true rfl)) hl.1 (b) hV (Nat.le_of_ble_eq_true rfl) dX0_now_87 ?_
      have ho : o_now r (nI 5) = (oi (p_lst r), r, none) := by first | (simp only [o_now, c_1, hcl_w_, reduceIte, and_self, oF, oK]; done) | (simp [o_now, oF, oK, fnd, c_1, hcl_w_]; done) | (unfold o_now oF oK; grind)
      exact kk_iretW S hr hlk hS (by rw [ho]; exact hP) (by rw [ho]) dX0_now_90
    · skip
      refine kb_tabIn (tgt := 91) S ((rfl).trans (congrArg nI k_1)) (by decide) dX0_now_1 (by decide) (by decide) rfl (by decide) ?_
      subst k_1
      refine lv_aload_n hx hb dX0_now_91 rfl (lv_at hl 0 rfl) ?_
      refine cg_d S hK hP dX0_now_92 ?_
      refine d0_cellars S hK hP (rm_ok (Nat.le_of_ble_eq_true rfl)) hl.1 (b) hV (Nat.le_of_ble_eq_true rfl) dX0_now_95 ?_
      have ho : o_now r (nI 6) = (nI (p_used r), r, none) := by first | (simp only [o_now, c_1, hcl_w_, reduceIte, and_self, oF, oK]; done) | (simp [o_now, oF, oK, fnd, c_1, hcl_w_]; done) | (unfold o_now oF oK; grind)
      exact kk_iretW S hr hlk hS (by rw [ho]; exact hP) (by rw [ho]) dX0_now_98
  · skip
    refine kb_tabRaw (n := 7) (tgt := 99) S rfl (by decide) c_1 (by decide) dX0_now_1 (by decide) ?_
    refine lv_aload_n hx hb dX0_now_99 rfl (lv_at hl 0 rfl) ?_
    refine lv_iconst (v := 0) hx hb dX0_now_100 (by decide) ?_
    refine cc_finding S hK hP hS (rm_ok (Nat.le_of_ble_eq_true rfl)) hl.1 (0) (by omega) rfl (Nat.le_of_ble_eq_true rfl) dX0_now_101 (fun H locs hP hS => ?_)
    have ho : o_now r w = (fnd 0, r, some 0) := by first | (simp only [o_now, c_1, reduceIte, and_self, oF, oK]; done) | (simp [o_now, oF, oK, fnd, c_1]; done) | (unfold o_now oF oK; grind)
    exact kk_iretW S hr hlk hS (by rw [ho]; exact hP) (by rw [ho]) dX0_now_104
set_option maxHeartbeats 4000000 in
set_option maxRecDepth 100000 in
theorem k0_toldOf (l : Launch) (t : CT) (r : Rw) (x : Nat → Rw) (k : Nat) (w : Nat) (b : Nat) (hk : k < 8) (hV : pV b r) (hw : w ≤ 7) : Met l yX0_toldOf (ws_ yX0_toldOf cX0_toldOf 3 (some .int)) (rmF 6) (va_Pc [.ref (t.2.1 0), .int (nI k), .int (nI w)] (fun U => cK t U ∧ cX t r x U.heap)) (kR (some (.int (p_told r k w)))) 0 0 (fun _ => False) := by
  refine kk_start (by decide) (Nat.le_of_ble_eq_true rfl) ?_
  intro p e s m below meth c S hr hlk hin hB ls hl
  obtain ⟨hK, hP⟩ := hB
  have hx := S.1
  have hb := S.2.1
  have hown : s.vm.findClass RX0 = some m.cls := S.2.2.2.1
  have hts := S.2.2.2.2
  have hl : lv_has ls 3 [(0, .ref (t.2.1 0)), (1, .int ((nI k))), (2, .int ((nI w)))] := hl
  refine lv_iload_n hx hb dX0_toldOf_0 rfl (lv_at hl 2 rfl) ?_
  refine lv_bipush (v := 7) hx hb dX0_toldOf_1 (by decide) ?_
  refine kb_ne_n (tgt := 14) (a := w) (b := 7) S rfl rfl (by omega) (by omega) dX0_toldOf_3 (by decide) (fun c_3 => ?_) (fun c_3 => ?_)
  · skip
    refine lv_aload_n hx hb dX0_toldOf_14 rfl (lv_at hl 0 rfl) ?_
    refine cg_d S hK hP dX0_toldOf_15 ?_
    refine cd_cask S hK hP dX0_toldOf_18 ?_
    refine lv_iload_n hx hb dX0_toldOf_21 rfl (lv_at hl 2 rfl) ?_
    refine ck_aald S hK hP (w) (by omega) rfl dX0_toldOf_22 ?_
    refine lv_iload_n hx hb dX0_toldOf_23 rfl (lv_at hl 1 rfl) ?_
    refine ck_ldc S hK hP (w) (by omega) (k) (by omega) rfl dX0_toldOf_24 ?_
    exact kk_iretR S hr hlk rfl rfl (by unfold p_told; rw [if_neg c_3]) dX0_toldOf_25
  · skip
    refine lv_aload_n hx hb dX0_toldOf_6 rfl (lv_at hl 0 rfl) ?_
    refine lv_iload_n hx hb dX0_toldOf_7 rfl (lv_at hl 1 rfl) ?_
    refine cc_loudOf S hK hP (rm_ok (Nat.le_of_ble_eq_true rfl)) hl.1 (k) (b) (by omega) hV rfl (Nat.le_of_ble_eq_true rfl) dX0_toldOf_8 ?_
    refine lv_goto (tgt := 25) hx hb dX0_toldOf_11 (by decide) ?_
    exact kk_iretR S hr hlk rfl rfl (by unfold p_told; rw [if_pos c_3]) dX0_toldOf_25
section CC
variable {p : Program} {l : Launch} {e : Env} {R : Room} {s : State} {m : MethodId} {args : Array Value} {below : List Frame} {meth : Method} {c : Code} {H H0 : Heap} {locs : List Loc} {cells slots : Nat} {Q : State → Prop}
variable {cc : ByteArray} {pc nL : Nat} {ls : Array Slot} {rest : List Value} {t : CT} {r : Rw} {x : Nat → Rw}
theorem cc_toldOf (S : CallFix p m c cc nL s args lw_all RX0) (hK : cK t s) (hP : cX t r x H) (hR : kRm R 7 cells slots) (hsz : ls.size = nL) (k : Nat) (w : Nat) (b : Nat) (hk : k < 8) (hV : pV b r) (hw : w ≤ 7) {i0 : Int32} (e0 : i0 = nI k) {i1 : Int32} (e1 : i1 = nI w) (hrest : (rest.map fun v => v.category).sum ≤ 8) (hdg : decode cc pc = .ok (.invokevirtual 231, 3)) (kk : W p l e R s m args below meth c H locs cells slots Q (F0 m (pc + 3) ls (.int (p_told r k w) :: rest))) : W p l e R s m args below meth c H locs cells slots Q (F0 m pc ls (.int i1 :: .int i0 :: .ref (t.2.1 0) :: rest)) := by
  subst e0
  subst e1
  exact kk_Ri (W.runV (As := [.int (nI k), .int (nI w)]) (rest := rest) S (k0_toldOf l t r x k w b hk hV hw) (cwV 2 S.2.2.2.2 (lw_V q820 q822 qs16 q101 q823) rfl rfl rfl (by decide +kernel) ⟨hR.1, by have := hR.2.1; show 8 + (3 + 11) + 38 * 6 ≤ R.locals; omega⟩) ⟨c_blind, c_recv hK hP, c_pre hK hP⟩ rfl rfl hsz rfl (lv_room hrest) hdg ⟨hR.2.2.1, hR.2.2.2⟩) kk
end CC
set_option maxHeartbeats 4000000 in
set_option maxRecDepth 100000 in
theorem k0_toldBehind (l : Launch) (t : CT) (r : Rw) (x : Nat → Rw) (k : Nat) (w : Nat) (n : Nat) (b : Nat) (hk : k < 8) (hw : w ≤ 7) (hV : pV b r) (hbn : b + n < 2 ^ 30) : Met l yX0_toldBehind (wsW_ yX0_toldBehind cX0_toldBehind 6 (some .int) [(11, 24, 38, 0), (38, 40, 38, 0)]) (rmF 9) (va_Pc [.ref (t.2.1 0), .int (nI k), .int (nI w), .int (nI n)] (fun U => cK t U ∧ cX t r x U.heap)) (kW (some (.int (p_told (p_goes n r) k w))) (fun H => ∃ x1, cJ (x) x1 ∧ cX t (r) x1 H) (cA t)) 0 0 (cA t) := by
  refine kk_startW (by decide) (Nat.le_of_ble_eq_true rfl) ?_
  intro p e s m below meth c S hr hlk hin hB ls hl
  obtain ⟨hK, hP⟩ := hB
  have hx := S.1
  have hb := S.2.1
  have hown : s.vm.findClass RX0 = some m.cls := S.2.2.2.1
  have hts := S.2.2.2.2
  have hS : va_S (cA t) s.heap s.heap [] := va_S.rf
  have hl : lv_has ls 6 [(0, .ref (t.2.1 0)), (1, .int ((nI k))), (2, .int ((nI w))), (3, .int ((nI n)))] := hl
  have hVg := pV_goes (b := 0) n b r hV (by omega)
  refine lv_aload_n hx hb dX0_toldBehind_0 rfl (lv_at hl 0 rfl) ?_
  refine cg_aside S hK hP dX0_toldBehind_1 ?_
  refine lv_aload_n hx hb dX0_toldBehind_4 rfl (lv_at hl 0 rfl) ?_
  refine cg_d S hK hP dX0_toldBehind_5 ?_
  refine cb_aside_d S hK hP hS (fun _ h => h) (rm_ok (Nat.le_of_ble_eq_true rfl)) hl.1 (Nat.le_of_ble_eq_true rfl) dX0_toldBehind_8 (fun H locs hP hS => ?_)
  refine lv_aload_n hx hb dX0_toldBehind_11 rfl (lv_at hl 0 rfl) ?_
  refine lv_iload_n hx hb dX0_toldBehind_12 rfl (lv_at hl 3 rfl) ?_
  refine cc_passes S hK hP hS (rm_ok (Nat.le_of_ble_eq_true rfl)) hl.1 (n) (b) hV (by omega) rfl (Nat.le_of_ble_eq_true rfl) dX0_toldBehind_13 (fun H locs hP hS => ?_)
  refine lv_aload_n hx hb dX0_toldBehind_16 rfl (lv_at hl 0 rfl) ?_
  refine lv_iload_n hx hb dX0_toldBehind_17 rfl (lv_at hl 1 rfl) ?_
  refine lv_iload_n hx hb dX0_toldBehind_18 rfl (lv_at hl 2 rfl) ?_
  refine cc_toldOf S hK hP (rm_ok (Nat.le_of_ble_eq_true rfl)) hl.1 (k) (w) ((b + n)) (by omega) hVg (by omega) rfl rfl (Nat.le_of_ble_eq_true rfl) dX0_toldBehind_19 ?_
  refine lv_istore (lv' := [(4, .int (p_told (p_goes n r) k w)), (0, .ref (t.2.1 0)), (1, .int ((nI k))), (2, .int ((nI w))), (3, .int ((nI n)))]) hx hb dX0_toldBehind_22 hl (by decide) rfl (fun ls hl => ?_)
  refine lv_aload_n hx hb dX0_toldBehind_24 rfl (lv_at hl 1 rfl) ?_
  refine cg_d S hK hP dX0_toldBehind_25 ?_
  refine lv_aload_n hx hb dX0_toldBehind_28 rfl (lv_at hl 1 rfl) ?_
  refine cg_aside S hK hP dX0_toldBehind_29 ?_
  refine cb_d_aside S hK hP hS (fun _ h => h) (rm_ok (Nat.le_of_ble_eq_true rfl)) hl.1 (Nat.le_of_ble_eq_true rfl) dX0_toldBehind_32 (fun H locs hP hS => ?_)
  have hP : cX t r (va_up x 3 r) H := hP
  refine lv_iload hx hb dX0_toldBehind_35 (lv_at hl 0 rfl) ?_
  exact kk_iretW S hr hlk hS (⟨_, ((cJ.rf _)).j3, hP⟩) (rfl) dX0_toldBehind_37
set_option maxHeartbeats 4000000 in
set_option maxRecDepth 100000 in
theorem k0_clapsBehind (l : Launch) (t : CT) (r : Rw) (x : Nat → Rw) (n : Nat) (b : Nat) (hV : pV b r) (hbn : b + n < 2 ^ 30) : Met l yX0_clapsBehind (wsW_ yX0_clapsBehind cX0_clapsBehind 4 (some .int) [(11, 17, 30, 0)]) (rmF 10) (va_Pc [.ref (t.2.1 0), .int (nI n)] (fun U => cK t U ∧ cX t r x U.heap)) (kW (some (.int (p_goes n r 3))) (fun H => ∃ x1, cJ (x) x1 ∧ cX t (r) x1 H) (cA t)) 0 0 (cA t) := by
  refine kk_startW (by decide) (Nat.le_of_ble_eq_true rfl) ?_
  intro p e s m below meth c S hr hlk hin hB ls hl
  obtain ⟨hK, hP⟩ := hB
  have hx := S.1
  have hb := S.2.1
  have hown : s.vm.findClass RX0 = some m.cls := S.2.2.2.1
  have hts := S.2.2.2.2
  have hS : va_S (cA t) s.heap s.heap [] := va_S.rf
  have hl : lv_has ls 4 [(0, .ref (t.2.1 0)), (1, .int ((nI n)))] := hl
  have hVg := pV_goes (b := 0) n b r hV (by omega)
  refine lv_aload_n hx hb dX0_clapsBehind_0 rfl (lv_at hl 0 rfl) ?_
  refine cg_aside S hK hP dX0_clapsBehind_1 ?_
  refine lv_aload_n hx hb dX0_clapsBehind_4 rfl (lv_at hl 0 rfl) ?_
  refine cg_d S hK hP dX0_clapsBehind_5 ?_
  refine cb_aside_d S hK hP hS (fun _ h => h) (rm_ok (Nat.le_of_ble_eq_true rfl)) hl.1 (Nat.le_of_ble_eq_true rfl) dX0_clapsBehind_8 (fun H locs hP hS => ?_)
  refine lv_aload_n hx hb dX0_clapsBehind_11 rfl (lv_at hl 0 rfl) ?_
  refine lv_iload_n hx hb dX0_clapsBehind_12 rfl (lv_at hl 1 rfl) ?_
  refine cc_goesOn S hK hP hS (rm_ok (Nat.le_of_ble_eq_true rfl)) hl.1 (n) (b) hV (by omega) rfl (Nat.le_of_ble_eq_true rfl) dX0_clapsBehind_13 (fun H locs hP hS => ?_)
  refine lv_istore_n (lv' := [(2, .int (p_goes n r 3)), (0, .ref (t.2.1 0)), (1, .int ((nI n)))]) hx hb dX0_clapsBehind_16 rfl hl (by decide) rfl (fun ls hl => ?_)
  refine lv_aload_n hx hb dX0_clapsBehind_17 rfl (lv_at hl 1 rfl) ?_
  refine cg_d S hK hP dX0_clapsBehind_18 ?_
  refine lv_aload_n hx hb dX0_clapsBehind_21 rfl (lv_at hl 1 rfl) ?_
  refine cg_aside S hK hP dX0_clapsBehind_22 ?_
  refine cb_d_aside S hK hP hS (fun _ h => h) (rm_ok (Nat.le_of_ble_eq_true rfl)) hl.1 (Nat.le_of_ble_eq_true rfl) dX0_clapsBehind_25 (fun H locs hP hS => ?_)
  have hP : cX t r (va_up x 3 r) H := hP
  refine lv_iload_n hx hb dX0_clapsBehind_28 rfl (lv_at hl 0 rfl) ?_
  exact kk_iretW S hr hlk hS (⟨_, ((cJ.rf _)).j3, hP⟩) (rfl) dX0_clapsBehind_29
set_option maxHeartbeats 4000000 in
set_option maxRecDepth 100000 in
theorem k0_burstBehind (l : Launch) (t : CT) (r : Rw) (x : Nat → Rw) (k : Nat) (b : Nat) (hk : k < 8) (hV : pV b r) (hb : b ≤ 99999) : Met l yX0_burstBehind (wsW_ yX0_burstBehind cX0_burstBehind 6 (some .int) [(11, 71, 85, 0), (85, 87, 85, 0)]) (rmF 8) (va_Pc [.ref (t.2.1 0), .int (nI k)] (fun U => cK t U ∧ cX t r x U.heap)) (kW (some (.int (oi (p_bu r k)))) (fun H => ∃ x1, cJ (x) x1 ∧ cX t (r) x1 H) (cA t)) 0 0 (cA t) := by
  refine kk_startW (by decide) (Nat.le_of_ble_eq_true rfl) ?_
  intro p e s m below meth c S hr hlk hin hB ls hl
  obtain ⟨hK, hP⟩ := hB
  have hx := S.1
  have hb := S.2.1
  have hown : s.vm.findClass RX0 = some m.cls := S.2.2.2.1
  have hts := S.2.2.2.2
  have hS : va_S (cA t) s.heap s.heap [] := va_S.rf
  have hl : lv_has ls 6 [(0, .ref (t.2.1 0)), (1, .int ((nI k)))] := hl
  refine lv_aload_n hx hb dX0_burstBehind_0 rfl (lv_at hl 0 rfl) ?_
  refine cg_aside S hK hP dX0_burstBehind_1 ?_
  refine lv_aload_n hx hb dX0_burstBehind_4 rfl (lv_at hl 0 rfl) ?_
  refine cg_d S hK hP dX0_burstBehind_5 ?_
  refine cb_aside_d S hK hP hS (fun _ h => h) (rm_ok (Nat.le_of_ble_eq_true rfl)) hl.1 (Nat.le_of_ble_eq_true rfl) dX0_burstBehind_8 (fun H locs hP hS => ?_)
  refine lv_aload_n hx hb dX0_burstBehind_11 rfl (lv_at hl 0 rfl) ?_
  refine cg_d S hK hP dX0_burstBehind_12 ?_
  refine cd_cask S hK hP dX0_burstBehind_15 ?_
  refine lv_bipush (v := 6) hx hb dX0_burstBehind_18 (by decide) ?_
  refine ck_aald S hK hP (6) (by omega) rfl dX0_burstBehind_20 ?_
  refine lv_iload_n hx hb dX0_burstBehind_21 rfl (lv_at hl 1 rfl) ?_
  refine ck_ldc S hK hP (6) (by omega) (k) (by omega) rfl dX0_burstBehind_22 ?_
  refine lv_istore_n (lv' := [(2, .int (r (16 + 7 * k + 6))), (0, .ref (t.2.1 0)), (1, .int ((nI k)))]) hx hb dX0_burstBehind_23 rfl hl (by decide) rfl (fun ls hl => ?_)
  refine lv_iconst (v := 0) hx hb dX0_burstBehind_24 (by decide) ?_
  refine lv_istore_n (lv' := [(3, .int (0)), (2, .int (r (16 + 7 * k + 6))), (0, .ref (t.2.1 0)), (1, .int ((nI k)))]) hx hb dX0_burstBehind_25 rfl hl (by decide) rfl (fun ls hl => ?_)
  have lp_26 : ∀ (j q : Nat) (r1 : Rw) (H : Heap) (locs : List Loc) (ls : Array Slot), q + j = 101 → (p_until (fun q => decide (¬ q (16 + 7 * k + 6) = r (16 + 7 * k + 6))) j q r1 = p_bu r k) → (pV (b + q) r1) → cX t (r1) ((va_up x 3 r)) H → va_S (cA t) s.heap H locs → lv_has ls 6 [(0, .ref (t.2.1 0)), (1, .int ((nI k))), (2, .int (r (16 + 7 * k + 6))), (3, .int ((nI q)))] → W p l e (rmF 8) s m ([.ref (t.2.1 0), .int (nI k)] : List Value).toArray below meth c H locs 0 0 (MQ below (kW (some (.int (oi (p_bu r k)))) (fun H => ∃ x1, cJ (x) x1 ∧ cX t (r) x1 H) (cA t)) ([.ref (t.2.1 0), .int (nI k)] : List Value).toArray s 0 0 (cA t)) (F0 m 26 ls []) := by
    intro j
    induction j with
    | zero =>
      intro q  r1 H locs ls hkj he hV1 hP hS hl
      refine lv_iload_n hx hb dX0_burstBehind_26 rfl (lv_at hl 3 rfl) ?_
      refine lv_bipush (v := 100) hx hb dX0_burstBehind_27 (by decide) ?_
      refine kb_gt_n (tgt := 58) (a := q) (b := 100) S rfl rfl (by omega) (by omega) dX0_burstBehind_29 (by decide) (fun c_29 => ?_) (fun c_29 => ?_)
      · skip
        have hres : p_bu r k = none := by rw [← he]; rfl
        refine lv_iload_n hx hb dX0_burstBehind_58 rfl (lv_at hl 3 rfl) ?_
        refine lv_bipush (v := 100) hx hb dX0_burstBehind_59 (by decide) ?_
        refine kb_gt_n (tgt := 68) (a := q) (b := 100) S rfl rfl (by omega) (by omega) dX0_burstBehind_61 (by decide) (fun c_61 => ?_) (fun c_61 => ?_)
        · skip
          refine lv_iconst (v := (-1)) hx hb dX0_burstBehind_68 (by decide) ?_
          refine lv_istore (lv' := [(4, .int ((-1))), (0, .ref (t.2.1 0)), (1, .int ((nI k))), (2, .int (r (16 + 7 * k + 6))), (3, .int ((nI q)))]) hx hb dX0_burstBehind_69 hl (by decide) rfl (fun ls hl => ?_)
          refine lv_aload_n hx hb dX0_burstBehind_71 rfl (lv_at hl 1 rfl) ?_
          refine cg_d S hK hP dX0_burstBehind_72 ?_
          refine lv_aload_n hx hb dX0_burstBehind_75 rfl (lv_at hl 1 rfl) ?_
          refine cg_aside S hK hP dX0_burstBehind_76 ?_
          refine cb_d_aside S hK hP hS (fun _ h => h) (rm_ok (Nat.le_of_ble_eq_true rfl)) hl.1 (Nat.le_of_ble_eq_true rfl) dX0_burstBehind_79 (fun H locs hP hS => ?_)
          have hP : cX t r (va_up x 3 r) H := hP
          refine lv_iload hx hb dX0_burstBehind_82 (lv_at hl 0 rfl) ?_
          exact kk_iretW S hr hlk hS (⟨_, ((cJ.rf _)).j3, hP⟩) (by rw [hres]; rfl) dX0_burstBehind_84
        · exact absurd c_61 (by omega)
      · exact absurd c_29 (by omega)
    | succ j ih =>
      intro q  r1 H locs ls hkj he hV1 hP hS hl
      have ih_26 := ih
      refine lv_iload_n hx hb dX0_burstBehind_26 rfl (lv_at hl 3 rfl) ?_
      refine lv_bipush (v := 100) hx hb dX0_burstBehind_27 (by decide) ?_
      refine kb_gt_n (tgt := 58) (a := q) (b := 100) S rfl rfl (by omega) (by omega) dX0_burstBehind_29 (by decide) (fun c_29 => ?_) (fun c_29 => ?_)
      · exact absurd c_29 (by omega)
      · skip
        refine lv_aload_n hx hb dX0_burstBehind_32 rfl (lv_at hl 0 rfl) ?_
        refine cg_d S hK hP dX0_burstBehind_33 ?_
        refine cd_cask S hK hP dX0_burstBehind_36 ?_
        refine lv_bipush (v := 6) hx hb dX0_burstBehind_39 (by decide) ?_
        refine ck_aald S hK hP (6) (by omega) rfl dX0_burstBehind_41 ?_
        refine lv_iload_n hx hb dX0_burstBehind_42 rfl (lv_at hl 1 rfl) ?_
        refine ck_ldc S hK hP (6) (by omega) (k) (by omega) rfl dX0_burstBehind_43 ?_
        refine lv_iload_n hx hb dX0_burstBehind_44 rfl (lv_at hl 2 rfl) ?_
        refine lv_icmp_ne (tgt := 58) hx hb dX0_burstBehind_45 (by decide) (fun c_45 => ?_) (fun c_45 => ?_)
        · skip
          have hres : p_bu r k = some q := by rw [← he, p_until, if_pos (by simp only [decide_eq_true_eq]; exact c_45)]
          refine lv_iload_n hx hb dX0_burstBehind_58 rfl (lv_at hl 3 rfl) ?_
          refine lv_bipush (v := 100) hx hb dX0_burstBehind_59 (by decide) ?_
          refine kb_gt_n (tgt := 68) (a := q) (b := 100) S rfl rfl (by omega) (by omega) dX0_burstBehind_61 (by decide) (fun c_61 => ?_) (fun c_61 => ?_)
          · exact absurd c_61 (by omega)
          · skip
            refine lv_iload_n hx hb dX0_burstBehind_64 rfl (lv_at hl 3 rfl) ?_
            refine lv_goto (tgt := 69) hx hb dX0_burstBehind_65 (by decide) ?_
            refine lv_istore (lv' := [(4, .int ((nI q))), (0, .ref (t.2.1 0)), (1, .int ((nI k))), (2, .int (r (16 + 7 * k + 6))), (3, .int ((nI q)))]) hx hb dX0_burstBehind_69 hl (by decide) rfl (fun ls hl => ?_)
            refine lv_aload_n hx hb dX0_burstBehind_71 rfl (lv_at hl 1 rfl) ?_
            refine cg_d S hK hP dX0_burstBehind_72 ?_
            refine lv_aload_n hx hb dX0_burstBehind_75 rfl (lv_at hl 1 rfl) ?_
            refine cg_aside S hK hP dX0_burstBehind_76 ?_
            refine cb_d_aside S hK hP hS (fun _ h => h) (rm_ok (Nat.le_of_ble_eq_true rfl)) hl.1 (Nat.le_of_ble_eq_true rfl) dX0_burstBehind_79 (fun H locs hP hS => ?_)
            have hP : cX t r (va_up x 3 r) H := hP
            refine lv_iload hx hb dX0_burstBehind_82 (lv_at hl 0 rfl) ?_
            exact kk_iretW S hr hlk hS (⟨_, ((cJ.rf _)).j3, hP⟩) (by rw [hres]; rfl) dX0_burstBehind_84
        · skip
          refine lv_aload_n hx hb dX0_burstBehind_48 rfl (lv_at hl 0 rfl) ?_
          refine cc_passes_2 S hK hP hS (rm_ok (Nat.le_of_ble_eq_true rfl)) hl.1 ((b + q)) hV1 (by omega) (Nat.le_of_ble_eq_true rfl) dX0_burstBehind_49 (fun H locs hP hS => ?_)
          refine lv_iinc (v := (nI (q + 1))) (lv' := [(3, .int ((nI (q + 1)))), (0, .ref (t.2.1 0)), (1, .int ((nI k))), (2, .int (r (16 + 7 * k + 6)))]) hx hb dX0_burstBehind_52 hl (k := 3) rfl (nn_1 rfl) (by decide) rfl (fun ls hl => ?_)
          refine lv_goto (tgt := 26) hx hb dX0_burstBehind_55 (by decide) ?_
          exact ih_26 ((q + 1)) _ _ _ ls (by omega) (by have h := he; rw [p_until, if_neg (by simp only [decide_eq_true_eq]; exact fun z => z c_45)] at h; exact h) (pV_day (b := b + q) hV1 (by omega)) hP hS (lv_sub hl [1, 2, 3, 0] rfl)
  exact lp_26 101 0 _ _ _ ls (by omega) (rfl) (hV) hP hS (lv_sub hl [2, 3, 1, 0] rfl)
set_option maxHeartbeats 4000000 in
set_option maxRecDepth 100000 in
theorem k0_loudBehind (l : Launch) (t : CT) (r : Rw) (x : Nat → Rw) (k : Nat) (v : Int32) (b : Nat) (hk : k < 8) (hV : pV b r) (hb : b ≤ 99999) : Met l yX0_loudBehind (wsW_ yX0_loudBehind cX0_loudBehind 6 (some .int) [(11, 51, 65, 0), (65, 67, 65, 0)]) (rmF 8) (va_Pc [.ref (t.2.1 0), .int (nI k), .int v] (fun U => cK t U ∧ cX t r x U.heap)) (kW (some (.int (oi (p_wh r k v)))) (fun H => ∃ x1, cJ (x) x1 ∧ cX t (r) x1 H) (cA t)) 0 0 (cA t) := by
  refine kk_startW (by decide) (Nat.le_of_ble_eq_true rfl) ?_
  intro p e s m below meth c S hr hlk hin hB ls hl
  obtain ⟨hK, hP⟩ := hB
  have hx := S.1
  have hb := S.2.1
  have hown : s.vm.findClass RX0 = some m.cls := S.2.2.2.1
  have hts := S.2.2.2.2
  have hS : va_S (cA t) s.heap s.heap [] := va_S.rf
  have hl : lv_has ls 6 [(0, .ref (t.2.1 0)), (1, .int ((nI k))), (2, .int (v))] := hl
  refine lv_aload_n hx hb dX0_loudBehind_0 rfl (lv_at hl 0 rfl) ?_
  refine cg_aside S hK hP dX0_loudBehind_1 ?_
  refine lv_aload_n hx hb dX0_loudBehind_4 rfl (lv_at hl 0 rfl) ?_
  refine cg_d S hK hP dX0_loudBehind_5 ?_
  refine cb_aside_d S hK hP hS (fun _ h => h) (rm_ok (Nat.le_of_ble_eq_true rfl)) hl.1 (Nat.le_of_ble_eq_true rfl) dX0_loudBehind_8 (fun H locs hP hS => ?_)
  refine lv_iconst (v := 0) hx hb dX0_loudBehind_11 (by decide) ?_
  refine lv_istore_n (lv' := [(3, .int (0)), (0, .ref (t.2.1 0)), (1, .int ((nI k))), (2, .int (v))]) hx hb dX0_loudBehind_12 rfl hl (by decide) rfl (fun ls hl => ?_)
  have lp_13 : ∀ (j q : Nat) (r1 : Rw) (H : Heap) (locs : List Loc) (ls : Array Slot), q + j = 101 → (p_until (fun q => decide (v ≤ p_loud q k)) j q r1 = p_wh r k v) → (pV (b + q) r1) → cX t (r1) ((va_up x 3 r)) H → va_S (cA t) s.heap H locs → lv_has ls 6 [(0, .ref (t.2.1 0)), (1, .int ((nI k))), (2, .int (v)), (3, .int ((nI q)))] → W p l e (rmF 8) s m ([.ref (t.2.1 0), .int (nI k), .int v] : List Value).toArray below meth c H locs 0 0 (MQ below (kW (some (.int (oi (p_wh r k v)))) (fun H => ∃ x1, cJ (x) x1 ∧ cX t (r) x1 H) (cA t)) ([.ref (t.2.1 0), .int (nI k), .int v] : List Value).toArray s 0 0 (cA t)) (F0 m 13 ls []) := by
    intro j
    induction j with
    | zero =>
      intro q  r1 H locs ls hkj he hV1 hP hS hl
      refine lv_iload_n hx hb dX0_loudBehind_13 rfl (lv_at hl 3 rfl) ?_
      refine lv_bipush (v := 100) hx hb dX0_loudBehind_14 (by decide) ?_
      refine kb_gt_n (tgt := 38) (a := q) (b := 100) S rfl rfl (by omega) (by omega) dX0_loudBehind_16 (by decide) (fun c_16 => ?_) (fun c_16 => ?_)
      · skip
        have hres : p_wh r k v = none := by rw [← he]; rfl
        refine lv_iload_n hx hb dX0_loudBehind_38 rfl (lv_at hl 3 rfl) ?_
        refine lv_bipush (v := 100) hx hb dX0_loudBehind_39 (by decide) ?_
        refine kb_gt_n (tgt := 48) (a := q) (b := 100) S rfl rfl (by omega) (by omega) dX0_loudBehind_41 (by decide) (fun c_41 => ?_) (fun c_41 => ?_)
        · skip
          refine lv_iconst (v := (-1)) hx hb dX0_loudBehind_48 (by decide) ?_
          refine lv_istore (lv' := [(4, .int ((-1))), (0, .ref (t.2.1 0)), (1, .int ((nI k))), (2, .int (v)), (3, .int ((nI q)))]) hx hb dX0_loudBehind_49 hl (by decide) rfl (fun ls hl => ?_)
          refine lv_aload_n hx hb dX0_loudBehind_51 rfl (lv_at hl 1 rfl) ?_
          refine cg_d S hK hP dX0_loudBehind_52 ?_
          refine lv_aload_n hx hb dX0_loudBehind_55 rfl (lv_at hl 1 rfl) ?_
          refine cg_aside S hK hP dX0_loudBehind_56 ?_
          refine cb_d_aside S hK hP hS (fun _ h => h) (rm_ok (Nat.le_of_ble_eq_true rfl)) hl.1 (Nat.le_of_ble_eq_true rfl) dX0_loudBehind_59 (fun H locs hP hS => ?_)
          have hP : cX t r (va_up x 3 r) H := hP
          refine lv_iload hx hb dX0_loudBehind_62 (lv_at hl 0 rfl) ?_
          exact kk_iretW S hr hlk hS (⟨_, ((cJ.rf _)).j3, hP⟩) (by rw [hres]; rfl) dX0_loudBehind_64
        · exact absurd c_41 (by omega)
      · exact absurd c_16 (by omega)
    | succ j ih =>
      intro q  r1 H locs ls hkj he hV1 hP hS hl
      have ih_13 := ih
      refine lv_iload_n hx hb dX0_loudBehind_13 rfl (lv_at hl 3 rfl) ?_
      refine lv_bipush (v := 100) hx hb dX0_loudBehind_14 (by decide) ?_
      refine kb_gt_n (tgt := 38) (a := q) (b := 100) S rfl rfl (by omega) (by omega) dX0_loudBehind_16 (by decide) (fun c_16 => ?_) (fun c_16 => ?_)
      · exact absurd c_16 (by omega)
      · skip
        refine lv_aload_n hx hb dX0_loudBehind_19 rfl (lv_at hl 0 rfl) ?_
        refine lv_iload_n hx hb dX0_loudBehind_20 rfl (lv_at hl 1 rfl) ?_
        refine cc_loudOf S hK hP (rm_ok (Nat.le_of_ble_eq_true rfl)) hl.1 (k) ((b + q)) (by omega) hV1 rfl (Nat.le_of_ble_eq_true rfl) dX0_loudBehind_21 ?_
        refine lv_iload_n hx hb dX0_loudBehind_24 rfl (lv_at hl 2 rfl) ?_
        refine lv_icmp_ge (tgt := 38) hx hb dX0_loudBehind_25 (by decide) (fun c_25 => ?_) (fun c_25 => ?_)
        · skip
          have hres : p_wh r k v = some q := by rw [← he, p_until, if_pos (by simp only [decide_eq_true_eq]; exact c_25)]
          refine lv_iload_n hx hb dX0_loudBehind_38 rfl (lv_at hl 3 rfl) ?_
          refine lv_bipush (v := 100) hx hb dX0_loudBehind_39 (by decide) ?_
          refine kb_gt_n (tgt := 48) (a := q) (b := 100) S rfl rfl (by omega) (by omega) dX0_loudBehind_41 (by decide) (fun c_41 => ?_) (fun c_41 => ?_)
          · exact absurd c_41 (by omega)
          · skip
            refine lv_iload_n hx hb dX0_loudBehind_44 rfl (lv_at hl 3 rfl) ?_
            refine lv_goto (tgt := 49) hx hb dX0_loudBehind_45 (by decide) ?_
            refine lv_istore (lv' := [(4, .int ((nI q))), (0, .ref (t.2.1 0)), (1, .int ((nI k))), (2, .int (v)), (3, .int ((nI q)))]) hx hb dX0_loudBehind_49 hl (by decide) rfl (fun ls hl => ?_)
            refine lv_aload_n hx hb dX0_loudBehind_51 rfl (lv_at hl 1 rfl) ?_
            refine cg_d S hK hP dX0_loudBehind_52 ?_
            refine lv_aload_n hx hb dX0_loudBehind_55 rfl (lv_at hl 1 rfl) ?_
            refine cg_aside S hK hP dX0_loudBehind_56 ?_
            refine cb_d_aside S hK hP hS (fun _ h => h) (rm_ok (Nat.le_of_ble_eq_true rfl)) hl.1 (Nat.le_of_ble_eq_true rfl) dX0_loudBehind_59 (fun H locs hP hS => ?_)
            have hP : cX t r (va_up x 3 r) H := hP
            refine lv_iload hx hb dX0_loudBehind_62 (lv_at hl 0 rfl) ?_
            exact kk_iretW S hr hlk hS (⟨_, ((cJ.rf _)).j3, hP⟩) (by rw [hres]; rfl) dX0_loudBehind_64
        · skip
          refine lv_aload_n hx hb dX0_loudBehind_28 rfl (lv_at hl 0 rfl) ?_
          refine cc_passes_2 S hK hP hS (rm_ok (Nat.le_of_ble_eq_true rfl)) hl.1 ((b + q)) hV1 (by omega) (Nat.le_of_ble_eq_true rfl) dX0_loudBehind_29 (fun H locs hP hS => ?_)
          refine lv_iinc (v := (nI (q + 1))) (lv' := [(3, .int ((nI (q + 1)))), (0, .ref (t.2.1 0)), (1, .int ((nI k))), (2, .int (v))]) hx hb dX0_loudBehind_32 hl (k := 3) rfl (nn_1 rfl) (by decide) rfl (fun ls hl => ?_)
          refine lv_goto (tgt := 13) hx hb dX0_loudBehind_35 (by decide) ?_
          exact ih_13 ((q + 1)) _ _ _ ls (by omega) (by have h := he; rw [p_until, if_neg (by simp only [decide_eq_true_eq]; exact Int32.not_le.mpr (Int32.not_le.mp c_25))] at h; exact h) (pV_day (b := b + q) hV1 (by omega)) hP hS (lv_sub hl [1, 2, 3, 0] rfl)
  exact lp_13 101 0 _ _ _ ls (by omega) (rfl) (hV) hP hS (lv_sub hl [1, 2, 3, 0] rfl)
set_option maxHeartbeats 4000000 in
set_option maxRecDepth 100000 in
theorem k0_burstOnes (l : Launch) (t : CT) (r : Rw) (x : Nat → Rw) (n : Nat) (b : Nat) (hV : pV b r) (hbn : b + n < 2 ^ 30) : Met l yX0_burstOnes (wsW_ yX0_burstOnes cX0_burstOnes 5 (some .int) [(11, 76, 89, 0), (89, 91, 89, 0)]) (rmF 9) (va_Pc [.ref (t.2.1 0), .int (nI n)] (fun U => cK t U ∧ cX t r x U.heap)) (kW (some (.int (nI (p_chain r (p_goes n r))))) (fun H => ∃ x1, cJ (x) x1 ∧ cX t (r) x1 H) (cA t)) 0 0 (cA t) := by
  refine kk_startW (by decide) (Nat.le_of_ble_eq_true rfl) ?_
  intro p e s m below meth c S hr hlk hin hB ls hl
  obtain ⟨hK, hP⟩ := hB
  have hx := S.1
  have hb := S.2.1
  have hown : s.vm.findClass RX0 = some m.cls := S.2.2.2.1
  have hts := S.2.2.2.2
  have hS : va_S (cA t) s.heap s.heap [] := va_S.rf
  have hl : lv_has ls 5 [(0, .ref (t.2.1 0)), (1, .int ((nI n)))] := hl
  have hn := hV.n.1
  have hn8 := hV.n.2
  have hVg := pV_goes (b := 0) n b r hV (by omega)
  refine lv_aload_n hx hb dX0_burstOnes_0 rfl (lv_at hl 0 rfl) ?_
  refine cg_aside S hK hP dX0_burstOnes_1 ?_
  refine lv_aload_n hx hb dX0_burstOnes_4 rfl (lv_at hl 0 rfl) ?_
  refine cg_d S hK hP dX0_burstOnes_5 ?_
  refine cb_aside_d S hK hP hS (fun _ h => h) (rm_ok (Nat.le_of_ble_eq_true rfl)) hl.1 (Nat.le_of_ble_eq_true rfl) dX0_burstOnes_8 (fun H locs hP hS => ?_)
  refine lv_aload_n hx hb dX0_burstOnes_11 rfl (lv_at hl 0 rfl) ?_
  refine lv_iload_n hx hb dX0_burstOnes_12 rfl (lv_at hl 1 rfl) ?_
  refine cc_passes S hK hP hS (rm_ok (Nat.le_of_ble_eq_true rfl)) hl.1 (n) (b) hV (by omega) rfl (Nat.le_of_ble_eq_true rfl) dX0_burstOnes_13 (fun H locs hP hS => ?_)
  refine lv_iconst (v := 0) hx hb dX0_burstOnes_16 (by decide) ?_
  refine lv_istore_n (lv' := [(2, .int (0)), (0, .ref (t.2.1 0)), (1, .int ((nI n)))]) hx hb dX0_burstOnes_17 rfl hl (by decide) rfl (fun ls hl => ?_)
  refine lv_iconst (v := 0) hx hb dX0_burstOnes_18 (by decide) ?_
  refine lv_istore_n (lv' := [(3, .int (0)), (2, .int (0)), (0, .ref (t.2.1 0)), (1, .int ((nI n)))]) hx hb dX0_burstOnes_19 rfl hl (by decide) rfl (fun ls hl => ?_)
  have lp_20 : ∀ (j k : Nat) (a : Nat) (H : Heap) (locs : List Loc) (ls : Array Slot), k + j = pN r → (lp (fun k a => a ||| (if r (16 + 7 * k + 6) < p_goes n r (16 + 7 * k + 6) then 2 ^ k else 0)) j k a = p_chain r (p_goes n r)) → cX t ((p_goes n r)) ((va_up x 3 r)) H → va_S (cA t) s.heap H locs → lv_has ls 5 [(0, .ref (t.2.1 0)), (1, .int ((nI n))), (2, .int ((nI a))), (3, .int ((nI k)))] → W p l e (rmF 9) s m ([.ref (t.2.1 0), .int (nI n)] : List Value).toArray below meth c H locs 0 0 (MQ below (kW (some (.int (nI (p_chain r (p_goes n r))))) (fun H => ∃ x1, cJ (x) x1 ∧ cX t (r) x1 H) (cA t)) ([.ref (t.2.1 0), .int (nI n)] : List Value).toArray s 0 0 (cA t)) (F0 m 20 ls []) := by
    intro j
    induction j with
    | zero =>
      intro k a H locs ls hkj he hP hS hl
      refine lv_iload_n hx hb dX0_burstOnes_20 rfl (lv_at hl 3 rfl) ?_
      refine lv_aload_n hx hb dX0_burstOnes_21 rfl (lv_at hl 0 rfl) ?_
      refine cg_d S hK hP dX0_burstOnes_22 ?_
      refine cd_casks S hK hP dX0_burstOnes_25 ?_
      refine kb_ge_n (tgt := 74) (a := k) (b := (pN r)) S rfl ((hVg.n.1).trans (congrArg nI (p_goes_n (b := 0) n b r hV (by omega)))) (by omega) (by omega) dX0_burstOnes_28 (by decide) (fun c_28 => ?_) (fun c_28 => ?_)
      · skip
        refine lv_iload_n hx hb dX0_burstOnes_74 rfl (lv_at hl 2 rfl) ?_
        refine lv_istore_n (lv' := [(3, .int ((nI a))), (0, .ref (t.2.1 0)), (1, .int ((nI n))), (2, .int ((nI a)))]) hx hb dX0_burstOnes_75 rfl hl (by decide) rfl (fun ls hl => ?_)
        refine lv_aload_n hx hb dX0_burstOnes_76 rfl (lv_at hl 1 rfl) ?_
        refine cg_d S hK hP dX0_burstOnes_77 ?_
        refine lv_aload_n hx hb dX0_burstOnes_80 rfl (lv_at hl 1 rfl) ?_
        refine cg_aside S hK hP dX0_burstOnes_81 ?_
        refine cb_d_aside S hK hP hS (fun _ h => h) (rm_ok (Nat.le_of_ble_eq_true rfl)) hl.1 (Nat.le_of_ble_eq_true rfl) dX0_burstOnes_84 (fun H locs hP hS => ?_)
        have hP : cX t r (va_up x 3 r) H := hP
        refine lv_iload_n hx hb dX0_burstOnes_87 rfl (lv_at hl 0 rfl) ?_
        exact kk_iretW S hr hlk hS (⟨_, ((cJ.rf _)).j3, hP⟩) (by rw [← he]; rfl) dX0_burstOnes_88
      · exact absurd c_28 (by omega)
    | succ j ih =>
      intro k a H locs ls hkj he hP hS hl
      have ih_20 := ih
      refine lv_iload_n hx hb dX0_burstOnes_20 rfl (lv_at hl 3 rfl) ?_
      refine lv_aload_n hx hb dX0_burstOnes_21 rfl (lv_at hl 0 rfl) ?_
      refine cg_d S hK hP dX0_burstOnes_22 ?_
      refine cd_casks S hK hP dX0_burstOnes_25 ?_
      refine kb_ge_n (tgt := 74) (a := k) (b := (pN r)) S rfl ((hVg.n.1).trans (congrArg nI (p_goes_n (b := 0) n b r hV (by omega)))) (by omega) (by omega) dX0_burstOnes_28 (by decide) (fun c_28 => ?_) (fun c_28 => ?_)
      · exact absurd c_28 (by omega)
      · skip
        refine lv_iload_n hx hb dX0_burstOnes_31 rfl (lv_at hl 2 rfl) ?_
        refine lv_aload_n hx hb dX0_burstOnes_32 rfl (lv_at hl 0 rfl) ?_
        refine cg_d S hK hP dX0_burstOnes_33 ?_
        refine cd_cask S hK hP dX0_burstOnes_36 ?_
        refine lv_bipush (v := 6) hx hb dX0_burstOnes_39 (by decide) ?_
        refine ck_aald S hK hP (6) (by omega) rfl dX0_burstOnes_41 ?_
        refine lv_iload_n hx hb dX0_burstOnes_42 rfl (lv_at hl 3 rfl) ?_
        refine ck_ldc S hK hP (6) (by omega) (k) (by omega) rfl dX0_burstOnes_43 ?_
        refine lv_aload_n hx hb dX0_burstOnes_44 rfl (lv_at hl 0 rfl) ?_
        refine cg_aside S hK hP dX0_burstOnes_45 ?_
        refine cd3_cask S hK hP dX0_burstOnes_48 ?_
        refine lv_bipush (v := 6) hx hb dX0_burstOnes_51 (by decide) ?_
        refine ck_aald3 S hK hP (6) (by omega) rfl dX0_burstOnes_53 ?_
        refine lv_iload_n hx hb dX0_burstOnes_54 rfl (lv_at hl 3 rfl) ?_
        refine ck_ldc3 S hK hP (6) (by omega) (k) (by omega) rfl dX0_burstOnes_55 ?_
        refine lv_icmp_le (tgt := 65) hx hb dX0_burstOnes_56 (by decide) (fun c_56 => ?_) (fun c_56 => ?_)
        · skip
          refine lv_iconst (v := 0) hx hb dX0_burstOnes_65 (by decide) ?_
          refine lv_ior hx hb dX0_burstOnes_66 ?_
          refine kb_nat (y := nI ((a ||| 0))) (nn_or rfl rfl) ?_
          refine lv_istore_n (lv' := [(2, .int ((nI (a ||| 0)))), (0, .ref (t.2.1 0)), (1, .int ((nI n))), (3, .int ((nI k)))]) hx hb dX0_burstOnes_67 rfl hl (by decide) rfl (fun ls hl => ?_)
          refine lv_iinc (v := (nI (k + 1))) (lv' := [(3, .int ((nI (k + 1)))), (2, .int ((nI (a ||| 0)))), (0, .ref (t.2.1 0)), (1, .int ((nI n)))]) hx hb dX0_burstOnes_68 hl (k := 3) rfl (nn_1 rfl) (by decide) rfl (fun ls hl => ?_)
          refine lv_goto (tgt := 20) hx hb dX0_burstOnes_71 (by decide) ?_
          exact ih_20 ((k + 1)) ((a ||| 0)) _ _ ls (by omega) (by have h := he; simp only [lp] at h; rw [if_neg (show ¬ r (16 + 7 * k + 6) < p_goes n r (16 + 7 * k + 6) from Int32.not_lt.mpr c_56)] at h; exact h) hP hS (lv_sub hl [2, 3, 1, 0] rfl)
        · skip
          refine lv_iconst (v := 1) hx hb dX0_burstOnes_59 (by decide) ?_
          refine lv_iload_n hx hb dX0_burstOnes_60 rfl (lv_at hl 3 rfl) ?_
          refine lv_ishl hx hb dX0_burstOnes_61 ?_
          refine lv_goto (tgt := 66) hx hb dX0_burstOnes_62 (by decide) ?_
          refine lv_ior hx hb dX0_burstOnes_66 ?_
          refine kb_nat (y := nI ((a ||| (2 ^ k)))) (nn_or rfl (nn_shl1 _ (by omega))) ?_
          refine lv_istore_n (lv' := [(2, .int ((nI (a ||| (2 ^ k))))), (0, .ref (t.2.1 0)), (1, .int ((nI n))), (3, .int ((nI k)))]) hx hb dX0_burstOnes_67 rfl hl (by decide) rfl (fun ls hl => ?_)
          refine lv_iinc (v := (nI (k + 1))) (lv' := [(3, .int ((nI (k + 1)))), (2, .int ((nI (a ||| (2 ^ k))))), (0, .ref (t.2.1 0)), (1, .int ((nI n)))]) hx hb dX0_burstOnes_68 hl (k := 3) rfl (nn_1 rfl) (by decide) rfl (fun ls hl => ?_)
          refine lv_goto (tgt := 20) hx hb dX0_burstOnes_71 (by decide) ?_
          exact ih_20 ((k + 1)) ((a ||| (2 ^ k))) _ _ ls (by omega) (by have h := he; simp only [lp] at h; rw [if_pos (show r (16 + 7 * k + 6) < p_goes n r (16 + 7 * k + 6) from Int32.not_le.mp c_56)] at h; exact h) hP hS (lv_sub hl [2, 3, 1, 0] rfl)
  exact lp_20 (pN r) 0 (0) _ _ ls (by omega) (rfl) hP hS (lv_sub hl [2, 3, 1, 0] rfl)
section CC
variable {p : Program} {l : Launch} {e : Env} {R : Room} {s : State} {m : MethodId} {args : Array Value} {below : List Frame} {meth : Method} {c : Code} {H H0 : Heap} {locs : List Loc} {cells slots : Nat} {Q : State → Prop}
variable {cc : ByteArray} {pc nL : Nat} {ls : Array Slot} {rest : List Value} {t : CT} {r : Rw} {x : Nat → Rw}
theorem cc_toldBehind (S : CallFix p m c cc nL s args lw_all RX0) (hK : cK t s) (hP : cX t r x H) (hS : va_S (cA t) H0 H locs) (hR : kRm R 10 cells slots) (hsz : ls.size = nL) (k : Nat) (w : Nat) (n : Nat) (b : Nat) (hk : k < 8) (hw : w ≤ 7) (hV : pV b r) (hbn : b + n < 2 ^ 30) {i0 : Int32} (e0 : i0 = nI k) {i1 : Int32} (e1 : i1 = nI w) {i2 : Int32} (e2 : i2 = nI n) (hrest : (rest.map fun v => v.category).sum ≤ 8) (hdg : decode cc pc = .ok (.invokevirtual 235, 3)) (kk : ∀ (x1 : Nat → Rw) (H1 : Heap) (locs1 : List Loc), cJ (x) x1 → cX t (r) x1 H1 → va_S (cA t) H0 H1 locs1 → W p l e R s m args below meth c H1 locs1 cells slots Q (F0 m (pc + 3) ls (.int (p_told (p_goes n r) k w) :: rest))) : W p l e R s m args below meth c H locs cells slots Q (F0 m pc ls (.int i2 :: .int i1 :: .int i0 :: .ref (t.2.1 0) :: rest)) := by
  subst e0
  subst e1
  subst e2
  exact kk_Wi (CallRunX.run (W.runX (As := [.int (nI k), .int (nI w), .int (nI n)]) (rest := rest) (maxL := 6) S (k0_toldBehind l t r x k w n b hk hw hV hbn).x rfl rfl hR.1 (by have := hR.2.1; show 8 + (6 + 11) + 38 * 9 ≤ R.locals; omega) (pay_in S.2.2.2.2 (lw_methW q809)) (fun U hW => LocX.codeW (pay_in S.2.2.2.2 (lw_methW q809) _ List.mem_cons_self #[] U hW)) (S.2.2.2.2 _ q101) ⟨by decide, by decide⟩ (show (parseMethodDescriptor yX0_toldBehind.desc).map (fun d => d.parameters.length) = some 3 from by decide +kernel) (S.2.2.2.2 _ q806) (S.2.2.2.2 _ q808) (S.2.2.2.2 _ qs15) ⟨c_blind, c_recv hK hP, c_pre hK hP⟩ rfl hsz rfl (lv_room hrest) hdg ⟨hR.2.2.1, hR.2.2.2⟩) (fun _ _ _ h => ⟨_, h.1⟩)) hS (fun _ h => h) (fun _ h => h) (fun H1 locs1 hB _ _ hS => by obtain ⟨x1, hj, hB⟩ := hB; exact kk x1 H1 locs1 hj hB hS)
theorem cc_clapsBehind (S : CallFix p m c cc nL s args lw_all RX0) (hK : cK t s) (hP : cX t r x H) (hS : va_S (cA t) H0 H locs) (hR : kRm R 11 cells slots) (hsz : ls.size = nL) (n : Nat) (b : Nat) (hV : pV b r) (hbn : b + n < 2 ^ 30) {i0 : Int32} (e0 : i0 = nI n) (hrest : (rest.map fun v => v.category).sum ≤ 8) (hdg : decode cc pc = .ok (.invokevirtual 239, 3)) (kk : ∀ (x1 : Nat → Rw) (H1 : Heap) (locs1 : List Loc), cJ (x) x1 → cX t (r) x1 H1 → va_S (cA t) H0 H1 locs1 → W p l e R s m args below meth c H1 locs1 cells slots Q (F0 m (pc + 3) ls (.int (p_goes n r 3) :: rest))) : W p l e R s m args below meth c H locs cells slots Q (F0 m pc ls (.int i0 :: .ref (t.2.1 0) :: rest)) := by
  subst e0
  exact kk_Wi (CallRunX.run (W.runX (As := [.int (nI n)]) (rest := rest) (maxL := 4) S (k0_clapsBehind l t r x n b hV hbn).x rfl rfl hR.1 (by have := hR.2.1; show 8 + (4 + 11) + 38 * 10 ≤ R.locals; omega) (pay_in S.2.2.2.2 (lw_methW q831)) (fun U hW => LocX.codeW (pay_in S.2.2.2.2 (lw_methW q831) _ List.mem_cons_self #[] U hW)) (S.2.2.2.2 _ q101) ⟨by decide, by decide⟩ (show (parseMethodDescriptor yX0_clapsBehind.desc).map (fun d => d.parameters.length) = some 1 from by decide +kernel) (S.2.2.2.2 _ q828) (S.2.2.2.2 _ q830) (S.2.2.2.2 _ qs17) ⟨c_blind, c_recv hK hP, c_pre hK hP⟩ rfl hsz rfl (lv_room hrest) hdg ⟨hR.2.2.1, hR.2.2.2⟩) (fun _ _ _ h => ⟨_, h.1⟩)) hS (fun _ h => h) (fun _ h => h) (fun H1 locs1 hB _ _ hS => by obtain ⟨x1, hj, hB⟩ := hB; exact kk x1 H1 locs1 hj hB hS)
theorem cc_burstBehind (S : CallFix p m c cc nL s args lw_all RX0) (hK : cK t s) (hP : cX t r x H) (hS : va_S (cA t) H0 H locs) (hR : kRm R 9 cells slots) (hsz : ls.size = nL) (k : Nat) (b : Nat) (hk : k < 8) (hV : pV b r) (hb : b ≤ 99999) {i0 : Int32} (e0 : i0 = nI k) (hrest : (rest.map fun v => v.category).sum ≤ 8) (hdg : decode cc pc = .ok (.invokevirtual 242, 3)) (kk : ∀ (x1 : Nat → Rw) (H1 : Heap) (locs1 : List Loc), cJ (x) x1 → cX t (r) x1 H1 → va_S (cA t) H0 H1 locs1 → W p l e R s m args below meth c H1 locs1 cells slots Q (F0 m (pc + 3) ls (.int (oi (p_bu r k)) :: rest))) : W p l e R s m args below meth c H locs cells slots Q (F0 m pc ls (.int i0 :: .ref (t.2.1 0) :: rest)) := by
  subst e0
  exact kk_Wi (CallRunX.run (W.runX (As := [.int (nI k)]) (rest := rest) (maxL := 6) S (k0_burstBehind l t r x k b hk hV hb).x rfl rfl hR.1 (by have := hR.2.1; show 8 + (6 + 11) + 38 * 8 ≤ R.locals; omega) (pay_in S.2.2.2.2 (lw_methW q839)) (fun U hW => LocX.codeW (pay_in S.2.2.2.2 (lw_methW q839) _ List.mem_cons_self #[] U hW)) (S.2.2.2.2 _ q101) ⟨by decide, by decide⟩ (show (parseMethodDescriptor yX0_burstBehind.desc).map (fun d => d.parameters.length) = some 1 from by decide +kernel) (S.2.2.2.2 _ q836) (S.2.2.2.2 _ q838) (S.2.2.2.2 _ qs18) ⟨c_blind, c_recv hK hP, c_pre hK hP⟩ rfl hsz rfl (lv_room hrest) hdg ⟨hR.2.2.1, hR.2.2.2⟩) (fun _ _ _ h => ⟨_, h.1⟩)) hS (fun _ h => h) (fun _ h => h) (fun H1 locs1 hB _ _ hS => by obtain ⟨x1, hj, hB⟩ := hB; exact kk x1 H1 locs1 hj hB hS)
theorem cc_loudBehind (S : CallFix p m c cc nL s args lw_all RX0) (hK : cK t s) (hP : cX t r x H) (hS : va_S (cA t) H0 H locs) (hR : kRm R 9 cells slots) (hsz : ls.size = nL) (k : Nat) {v : Int32} (b : Nat) (hk : k < 8) (hV : pV b r) (hb : b ≤ 99999) {i0 : Int32} (e0 : i0 = nI k) (hrest : (rest.map fun v => v.category).sum ≤ 8) (hdg : decode cc pc = .ok (.invokevirtual 248, 3)) (kk : ∀ (x1 : Nat → Rw) (H1 : Heap) (locs1 : List Loc), cJ (x) x1 → cX t (r) x1 H1 → va_S (cA t) H0 H1 locs1 → W p l e R s m args below meth c H1 locs1 cells slots Q (F0 m (pc + 3) ls (.int (oi (p_wh r k v)) :: rest))) : W p l e R s m args below meth c H locs cells slots Q (F0 m pc ls (.int v :: .int i0 :: .ref (t.2.1 0) :: rest)) := by
  subst e0
  exact kk_Wi (CallRunX.run (W.runX (As := [.int (nI k), .int v]) (rest := rest) (maxL := 6) S (k0_loudBehind l t r x k v b hk hV hb).x rfl rfl hR.1 (by have := hR.2.1; show 8 + (6 + 11) + 38 * 8 ≤ R.locals; omega) (pay_in S.2.2.2.2 (lw_methW q851)) (fun U hW => LocX.codeW (pay_in S.2.2.2.2 (lw_methW q851) _ List.mem_cons_self #[] U hW)) (S.2.2.2.2 _ q101) ⟨by decide, by decide⟩ (show (parseMethodDescriptor yX0_loudBehind.desc).map (fun d => d.parameters.length) = some 2 from by decide +kernel) (S.2.2.2.2 _ q848) (S.2.2.2.2 _ q850) (S.2.2.2.2 _ qs20) ⟨c_blind, c_recv hK hP, c_pre hK hP⟩ rfl hsz rfl (lv_room hrest) hdg ⟨hR.2.2.1, hR.2.2.2⟩) (fun _ _ _ h => ⟨_, h.1⟩)) hS (fun _ h => h) (fun _ h => h) (fun H1 locs1 hB _ _ hS => by obtain ⟨x1, hj, hB⟩ := hB; exact kk x1 H1 locs1 hj hB hS)
theorem cc_burstOnes (S : CallFix p m c cc nL s args lw_all RX0) (hK : cK t s) (hP : cX t r x H) (hS : va_S (cA t) H0 H locs) (hR : kRm R 10 cells slots) (hsz : ls.size = nL) (n : Nat) (b : Nat) (hV : pV b r) (hbn : b + n < 2 ^ 30) {i0 : Int32} (e0 : i0 = nI n) (hrest : (rest.map fun v => v.category).sum ≤ 8) (hdg : decode cc pc = .ok (.invokevirtual 251, 3)) (kk : ∀ (x1 : Nat → Rw) (H1 : Heap) (locs1 : List Loc), cJ (x) x1 → cX t (r) x1 H1 → va_S (cA t) H0 H1 locs1 → W p l e R s m args below meth c H1 locs1 cells slots Q (F0 m (pc + 3) ls (.int (nI (p_chain r (p_goes n r))) :: rest))) : W p l e R s m args below meth c H locs cells slots Q (F0 m pc ls (.int i0 :: .ref (t.2.1 0) :: rest)) := by
  subst e0
  exact kk_Wi (CallRunX.run (W.runX (As := [.int (nI n)]) (rest := rest) (maxL := 5) S (k0_burstOnes l t r x n b hV hbn).x rfl rfl hR.1 (by have := hR.2.1; show 8 + (5 + 11) + 38 * 9 ≤ R.locals; omega) (pay_in S.2.2.2.2 (lw_methW q859)) (fun U hW => LocX.codeW (pay_in S.2.2.2.2 (lw_methW q859) _ List.mem_cons_self #[] U hW)) (S.2.2.2.2 _ q101) ⟨by decide, by decide⟩ (show (parseMethodDescriptor yX0_burstOnes.desc).map (fun d => d.parameters.length) = some 1 from by decide +kernel) (S.2.2.2.2 _ q856) (S.2.2.2.2 _ q858) (S.2.2.2.2 _ qs21) ⟨c_blind, c_recv hK hP, c_pre hK hP⟩ rfl hsz rfl (lv_room hrest) hdg ⟨hR.2.2.1, hR.2.2.2⟩) (fun _ _ _ h => ⟨_, h.1⟩)) hS (fun _ h => h) (fun _ h => h) (fun H1 locs1 hB _ _ hS => by obtain ⟨x1, hj, hB⟩ := hB; exact kk x1 H1 locs1 hj hB hS)
end CC
set_option maxHeartbeats 4000000 in
set_option maxRecDepth 100000 in
theorem k0_ahead (l : Launch) (t : CT) (r : Rw) (x : Nat → Rw) (a : Int32) (w : Int32) (n : Int32) (b : Nat) (hV : pV b r) (hb : b ≤ 99999) : Met l yX0_ahead (ws_ yX0_ahead cX0_ahead 5 (some .int)) (rmF 10) (va_Pc [.ref (t.2.1 0), .int a, .int w, .int n] (fun U => cK t U ∧ cX t r x U.heap)) (kW (some (.int ((o_ahead r a w n).1))) (fun H => ∃ x1, cJ (fx x (o_ahead r a w n).2.2) x1 ∧ cX t ((o_ahead r a w n).2.1) x1 H) (cA t)) 0 0 (cA t) := by
  refine kk_start (by decide) (Nat.le_of_ble_eq_true rfl) ?_
  intro p e s m below meth c S hr hlk hin hB ls hl
  obtain ⟨hK, hP⟩ := hB
  have hx := S.1
  have hb := S.2.1
  have hown : s.vm.findClass RX0 = some m.cls := S.2.2.2.1
  have hts := S.2.2.2.2
  have hS : va_S (cA t) s.heap s.heap [] := va_S.rf
  have hl : lv_has ls 5 [(0, .ref (t.2.1 0)), (1, .int (a)), (2, .int (w)), (3, .int (n))] := hl
  have hn := hV.n.1
  have hn8 := hV.n.2
  refine lv_iload_n hx hb dX0_ahead_0 rfl (lv_at hl 2 rfl) ?_
  refine lv_iconst (v := 2) hx hb dX0_ahead_1 (by decide) ?_
  refine lv_icmp_eq (tgt := 22) hx hb dX0_ahead_2 (by decide) (fun c_2 => ?_) (fun c_2 => ?_)
  · skip
    have hw7 : (w = 2 ∨ (5 ≤ w ∧ w ≤ 7)) := by grind
    obtain ⟨w_, hw_, rfl⟩ := nat_of_le (n := 7) (x := w) (N := 7) rfl (by omega) (by grind)
    have hcl_w_ := nI_clamp (n := w_) (by omega)
    refine lv_iconst (v := 1) hx hb dX0_ahead_22 (by decide) ?_
    refine lv_goto (tgt := 27) hx hb dX0_ahead_23 (by decide) ?_
    refine lv_istore (lv' := [(4, .int (1)), (0, .ref (t.2.1 0)), (1, .int (a)), (2, .int ((nI w_))), (3, .int (n))]) hx hb dX0_ahead_27 hl (by decide) rfl (fun ls hl => ?_)
    refine lv_aload_n hx hb dX0_ahead_29 rfl (lv_at hl 1 rfl) ?_
    refine lv_iload_n hx hb dX0_ahead_30 rfl (lv_at hl 2 rfl) ?_
    refine cc_isCask S hK hP (rm_ok (Nat.le_of_ble_eq_true rfl)) hl.1 (b) hV (Nat.le_of_ble_eq_true rfl) dX0_ahead_31 ?_
    refine kb_ifeq (tgt := 62) S dX0_ahead_34 (by decide) (fun c_34 => ?_) (fun c_34 => ?_)
    · skip
      refine lv_aload_n hx hb dX0_ahead_62 rfl (lv_at hl 1 rfl) ?_
      refine lv_iconst (v := 0) hx hb dX0_ahead_63 (by decide) ?_
      refine cc_finding S hK hP hS (rm_ok (Nat.le_of_ble_eq_true rfl)) hl.1 (0) (by omega) rfl (Nat.le_of_ble_eq_true rfl) dX0_ahead_64 (fun H locs hP hS => ?_)
      have ho : o_ahead r a (nI w_) n = (fnd 0, r, some 0) := by first | (simp only [o_ahead, c_34, hcl_w_, hw7, reduceIte, and_self, oF, oK]; done) | (simp [o_ahead, oF, oK, fnd, c_34, hcl_w_, hw7]; done) | (unfold o_ahead oF oK; grind)
      exact kk_iretW S hr hlk hS (by rw [ho]; exact ⟨_, ((cJ.rf _)).fnd 0, hP⟩) (by rw [ho]) dX0_ahead_67
    · skip
      obtain ⟨a_, ha_, rfl⟩ := nat_of_lt (n := pN r) (hn) (by omega) c_34
      have hcl_a_ := nI_clamp (n := a_) (by omega)
      refine lv_iload hx hb dX0_ahead_37 (lv_at hl 0 rfl) ?_
      refine kb_eq0_n (tgt := 62) (a := 1) S rfl (by omega) dX0_ahead_39 (by decide) (fun c_39 => ?_) (fun c_39 => ?_)
      · exact absurd c_39 (by first | decide | omega)
      · skip
        refine lv_iload_n hx hb dX0_ahead_42 rfl (lv_at hl 4 rfl) ?_
        refine lv_iconst (v := 0) hx hb dX0_ahead_43 (by decide) ?_
        refine lv_bipush (v := 100) hx hb dX0_ahead_44 (by decide) ?_
        refine cc_in S (rm_ok (Nat.le_of_ble_eq_true rfl)) hl.1 (Nat.le_of_ble_eq_true rfl) dX0_ahead_46 ?_
        refine kb_ifeq (tgt := 62) S dX0_ahead_49 (by decide) (fun c_49 => ?_) (fun c_49 => ?_)
        · skip
          refine lv_aload_n hx hb dX0_ahead_62 rfl (lv_at hl 1 rfl) ?_
          refine lv_iconst (v := 0) hx hb dX0_ahead_63 (by decide) ?_
          refine cc_finding S hK hP hS (rm_ok (Nat.le_of_ble_eq_true rfl)) hl.1 (0) (by omega) rfl (Nat.le_of_ble_eq_true rfl) dX0_ahead_64 (fun H locs hP hS => ?_)
          have ho : o_ahead r (nI a_) (nI w_) n = (fnd 0, r, some 0) := by first | (simp only [o_ahead, c_34, c_49, hcl_w_, hw7, hcl_a_, reduceIte, and_self, oF, oK]; done) | (simp [o_ahead, oF, oK, fnd, c_34, c_49, hcl_w_, hw7, hcl_a_]; done) | (unfold o_ahead oF oK; grind)
          exact kk_iretW S hr hlk hS (by rw [ho]; exact ⟨_, ((cJ.rf _)).fnd 0, hP⟩) (by rw [ho]) dX0_ahead_67
        · skip
          obtain ⟨n_, hn_, rfl⟩ := nat_of_le (n := 100) (rfl) (by omega) c_49
          have hcl_n_ := nI_clamp (n := n_) (by omega)
          refine lv_aload_n hx hb dX0_ahead_52 rfl (lv_at hl 1 rfl) ?_
          refine lv_iload_n hx hb dX0_ahead_53 rfl (lv_at hl 2 rfl) ?_
          refine lv_iload_n hx hb dX0_ahead_54 rfl (lv_at hl 3 rfl) ?_
          refine lv_iload_n hx hb dX0_ahead_55 rfl (lv_at hl 4 rfl) ?_
          refine cc_toldBehind S hK hP hS (rm_ok (Nat.le_of_ble_eq_true rfl)) hl.1 (a_) (w_) (n_) (b) (by omega) (by omega) hV (by omega) rfl rfl rfl (Nat.le_of_ble_eq_true rfl) dX0_ahead_56 (fun x_5 H locs hj_5 hP hS => ?_)
          refine lv_goto (tgt := 67) hx hb dX0_ahead_59 (by decide) ?_
          have ho : o_ahead r (nI a_) (nI w_) (nI n_) = (p_told (p_goes n_ r) a_ w_, r, none) := by first | (simp only [o_ahead, c_34, c_49, hcl_w_, hw7, hcl_a_, hcl_n_, reduceIte, and_self, oF, oK]; done) | (simp [o_ahead, oF, oK, fnd, c_34, c_49, hcl_w_, hw7, hcl_a_, hcl_n_]; done) | (unfold o_ahead oF oK; grind)
          exact kk_iretW S hr hlk hS (by rw [ho]; exact ⟨_, ((cJ.rf _)).tr hj_5, hP⟩) (by rw [ho]) dX0_ahead_67
  · skip
    refine lv_iload_n hx hb dX0_ahead_5 rfl (lv_at hl 2 rfl) ?_
    refine lv_iconst (v := 5) hx hb dX0_ahead_6 (by decide) ?_
    refine lv_icmp_eq (tgt := 22) hx hb dX0_ahead_7 (by decide) (fun c_7 => ?_) (fun c_7 => ?_)
    · skip
      have hw7 : (w = 2 ∨ (5 ≤ w ∧ w ≤ 7)) := by grind
      obtain ⟨w_, hw_, rfl⟩ := nat_of_le (n := 7) (x := w) (N := 7) rfl (by omega) (by grind)
      have hcl_w_ := nI_clamp (n := w_) (by omega)
      refine lv_iconst (v := 1) hx hb dX0_ahead_22 (by decide) ?_
      refine lv_goto (tgt := 27) hx hb dX0_ahead_23 (by decide) ?_
      refine lv_istore (lv' := [(4, .int (1)), (0, .ref (t.2.1 0)), (1, .int (a)), (2, .int ((nI w_))), (3, .int (n))]) hx hb dX0_ahead_27 hl (by decide) rfl (fun ls hl => ?_)
      refine lv_aload_n hx hb dX0_ahead_29 rfl (lv_at hl 1 rfl) ?_
      refine lv_iload_n hx hb dX0_ahead_30 rfl (lv_at hl 2 rfl) ?_
      refine cc_isCask S hK hP (rm_ok (Nat.le_of_ble_eq_true rfl)) hl.1 (b) hV (Nat.le_of_ble_eq_true rfl) dX0_ahead_31 ?_
      refine kb_ifeq (tgt := 62) S dX0_ahead_34 (by decide) (fun c_34 => ?_) (fun c_34 => ?_)
      · skip
        refine lv_aload_n hx hb dX0_ahead_62 rfl (lv_at hl 1 rfl) ?_
        refine lv_iconst (v := 0) hx hb dX0_ahead_63 (by decide) ?_
        refine cc_finding S hK hP hS (rm_ok (Nat.le_of_ble_eq_true rfl)) hl.1 (0) (by omega) rfl (Nat.le_of_ble_eq_true rfl) dX0_ahead_64 (fun H locs hP hS => ?_)
        have ho : o_ahead r a (nI w_) n = (fnd 0, r, some 0) := by first | (simp only [o_ahead, c_34, hcl_w_, hw7, reduceIte, and_self, oF, oK]; done) | (simp [o_ahead, oF, oK, fnd, c_34, hcl_w_, hw7]; done) | (unfold o_ahead oF oK; grind)
        exact kk_iretW S hr hlk hS (by rw [ho]; exact ⟨_, ((cJ.rf _)).fnd 0, hP⟩) (by rw [ho]) dX0_ahead_67
      · skip
        obtain ⟨a_, ha_, rfl⟩ := nat_of_lt (n := pN r) (hn) (by omega) c_34
        have hcl_a_ := nI_clamp (n := a_) (by omega)
        refine lv_iload hx hb dX0_ahead_37 (lv_at hl 0 rfl) ?_
        refine kb_eq0_n (tgt := 62) (a := 1) S rfl (by omega) dX0_ahead_39 (by decide) (fun c_39 => ?_) (fun c_39 => ?_)
        · exact absurd c_39 (by first | decide | omega)
        · skip
          refine lv_iload_n hx hb dX0_ahead_42 rfl (lv_at hl 4 rfl) ?_
          refine lv_iconst (v := 0) hx hb dX0_ahead_43 (by decide) ?_
          refine lv_bipush (v := 100) hx hb dX0_ahead_44 (by decide) ?_
          refine cc_in S (rm_ok (Nat.le_of_ble_eq_true rfl)) hl.1 (Nat.le_of_ble_eq_true rfl) dX0_ahead_46 ?_
          refine kb_ifeq (tgt := 62) S dX0_ahead_49 (by decide) (fun c_49 => ?_) (fun c_49 => ?_)
          · skip
            refine lv_aload_n hx hb dX0_ahead_62 rfl (lv_at hl 1 rfl) ?_
            refine lv_iconst (v := 0) hx hb dX0_ahead_63 (by decide) ?_
            refine cc_finding S hK hP hS (rm_ok (Nat.le_of_ble_eq_true rfl)) hl.1 (0) (by omega) rfl (Nat.le_of_ble_eq_true rfl) dX0_ahead_64 (fun H locs hP hS => ?_)
            have ho : o_ahead r (nI a_) (nI w_) n = (fnd 0, r, some 0) := by first | (simp only [o_ahead, c_34, c_49, hcl_w_, hw7, hcl_a_, reduceIte, and_self, oF, oK]; done) | (simp [o_ahead, oF, oK, fnd, c_34, c_49, hcl_w_, hw7, hcl_a_]; done) | (unfold o_ahead oF oK; grind)
            exact kk_iretW S hr hlk hS (by rw [ho]; exact ⟨_, ((cJ.rf _)).fnd 0, hP⟩) (by rw [ho]) dX0_ahead_67
          · skip
            obtain ⟨n_, hn_, rfl⟩ := nat_of_le (n := 100) (rfl) (by omega) c_49
            have hcl_n_ := nI_clamp (n := n_) (by omega)
            refine lv_aload_n hx hb dX0_ahead_52 rfl (lv_at hl 1 rfl) ?_
            refine lv_iload_n hx hb dX0_ahead_53 rfl (lv_at hl 2 rfl) ?_
            refine lv_iload_n hx hb dX0_ahead_54 rfl (lv_at hl 3 rfl) ?_
            refine lv_iload_n hx hb dX0_ahead_55 rfl (lv_at hl 4 rfl) ?_
            refine cc_toldBehind S hK hP hS (rm_ok (Nat.le_of_ble_eq_true rfl)) hl.1 (a_) (w_) (n_) (b) (by omega) (by omega) hV (by omega) rfl rfl rfl (Nat.le_of_ble_eq_true rfl) dX0_ahead_56 (fun x_10 H locs hj_10 hP hS => ?_)
            refine lv_goto (tgt := 67) hx hb dX0_ahead_59 (by decide) ?_
            have ho : o_ahead r (nI a_) (nI w_) (nI n_) = (p_told (p_goes n_ r) a_ w_, r, none) := by first | (simp only [o_ahead, c_34, c_49, hcl_w_, hw7, hcl_a_, hcl_n_, reduceIte, and_self, oF, oK]; done) | (simp [o_ahead, oF, oK, fnd, c_34, c_49, hcl_w_, hw7, hcl_a_, hcl_n_]; done) | (unfold o_ahead oF oK; grind)
            exact kk_iretW S hr hlk hS (by rw [ho]; exact ⟨_, ((cJ.rf _)).tr hj_10, hP⟩) (by rw [ho]) dX0_ahead_67
    · skip
      refine lv_iload_n hx hb dX0_ahead_10 rfl (lv_at hl 2 rfl) ?_
      refine lv_bipush (v := 6) hx hb dX0_ahead_11 (by decide) ?_
      refine lv_icmp_eq (tgt := 22) hx hb dX0_ahead_13 (by decide) (fun c_13 => ?_) (fun c_13 => ?_)
      · skip
        have hw7 : (w = 2 ∨ (5 ≤ w ∧ w ≤ 7)) := by grind
        obtain ⟨w_, hw_, rfl⟩ := nat_of_le (n := 7) (x := w) (N := 7) rfl (by omega) (by grind)
        have hcl_w_ := nI_clamp (n := w_) (by omega)
        refine lv_iconst (v := 1) hx hb dX0_ahead_22 (by decide) ?_
        refine lv_goto (tgt := 27) hx hb dX0_ahead_23 (by decide) ?_
        refine lv_istore (lv' := [(4, .int (1)), (0, .ref (t.2.1 0)), (1, .int (a)), (2, .int ((nI w_))), (3, .int (n))]) hx hb dX0_ahead_27 hl (by decide) rfl (fun ls hl => ?_)
        refine lv_aload_n hx hb dX0_ahead_29 rfl (lv_at hl 1 rfl) ?_
        refine lv_iload_n hx hb dX0_ahead_30 rfl (lv_at hl 2 rfl) ?_
        refine cc_isCask S hK hP (rm_ok (Nat.le_of_ble_eq_true rfl)) hl.1 (b) hV (Nat.le_of_ble_eq_true rfl) dX0_ahead_31 ?_
        refine kb_ifeq (tgt := 62) S dX0_ahead_34 (by decide) (fun c_34 => ?_) (fun c_34 => ?_)
        · skip
          refine lv_aload_n hx hb dX0_ahead_62 rfl (lv_at hl 1 rfl) ?_
          refine lv_iconst (v := 0) hx hb dX0_ahead_63 (by decide) ?_
          refine cc_finding S hK hP hS (rm_ok (Nat.le_of_ble_eq_true rfl)) hl.1 (0) (by omega) rfl (Nat.le_of_ble_eq_true rfl) dX0_ahead_64 (fun H locs hP hS => ?_)
          have ho : o_ahead r a (nI w_) n = (fnd 0, r, some 0) := by first | (simp only [o_ahead, c_34, hcl_w_, hw7, reduceIte, and_self, oF, oK]; done) | (simp [o_ahead, oF, oK, fnd, c_34, hcl_w_, hw7]; done) | (unfold o_ahead oF oK; grind)
          exact kk_iretW S hr hlk hS (by rw [ho]; exact ⟨_, ((cJ.rf _)).fnd 0, hP⟩) (by rw [ho]) dX0_ahead_67
        · skip
          obtain ⟨a_, ha_, rfl⟩ := nat_of_lt (n := pN r) (hn) (by omega) c_34
          have hcl_a_ := nI_clamp (n := a_) (by omega)
          refine lv_iload hx hb dX0_ahead_37 (lv_at hl 0 rfl) ?_
          refine kb_eq0_n (tgt := 62) (a := 1) S rfl (by omega) dX0_ahead_39 (by decide) (fun c_39 => ?_) (fun c_39 => ?_)
          · exact absurd c_39 (by first | decide | omega)
          · skip
            refine lv_iload_n hx hb dX0_ahead_42 rfl (lv_at hl 4 rfl) ?_
            refine lv_iconst (v := 0) hx hb dX0_ahead_43 (by decide) ?_
            refine lv_bipush (v := 100) hx hb dX0_ahead_44 (by decide) ?_
            refine cc_in S (rm_ok (Nat.le_of_ble_eq_true rfl)) hl.1 (Nat.le_of_ble_eq_true rfl) dX0_ahead_46 ?_
            refine kb_ifeq (tgt := 62) S dX0_ahead_49 (by decide) (fun c_49 => ?_) (fun c_49 => ?_)
            · skip
              refine lv_aload_n hx hb dX0_ahead_62 rfl (lv_at hl 1 rfl) ?_
              refine lv_iconst (v := 0) hx hb dX0_ahead_63 (by decide) ?_
              refine cc_finding S hK hP hS (rm_ok (Nat.le_of_ble_eq_true rfl)) hl.1 (0) (by omega) rfl (Nat.le_of_ble_eq_true rfl) dX0_ahead_64 (fun H locs hP hS => ?_)
              have ho : o_ahead r (nI a_) (nI w_) n = (fnd 0, r, some 0) := by first | (simp only [o_ahead, c_34, c_49, hcl_w_, hw7, hcl_a_, reduceIte, and_self, oF, oK]; done) | (simp [o_ahead, oF, oK, fnd, c_34, c_49, hcl_w_, hw7, hcl_a_]; done) | (unfold o_ahead oF oK; grind)
              exact kk_iretW S hr hlk hS (by rw [ho]; exact ⟨_, ((cJ.rf _)).fnd 0, hP⟩) (by rw [ho]) dX0_ahead_67
            · skip
              obtain ⟨n_, hn_, rfl⟩ := nat_of_le (n := 100) (rfl) (by omega) c_49
              have hcl_n_ := nI_clamp (n := n_) (by omega)
              refine lv_aload_n hx hb dX0_ahead_52 rfl (lv_at hl 1 rfl) ?_
              refine lv_iload_n hx hb dX0_ahead_53 rfl (lv_at hl 2 rfl) ?_
              refine lv_iload_n hx hb dX0_ahead_54 rfl (lv_at hl 3 rfl) ?_
              refine lv_iload_n hx hb dX0_ahead_55 rfl (lv_at hl 4 rfl) ?_
              refine cc_toldBehind S hK hP hS (rm_ok (Nat.le_of_ble_eq_true rfl)) hl.1 (a_) (w_) (n_) (b) (by omega) (by omega) hV (by omega) rfl rfl rfl (Nat.le_of_ble_eq_true rfl) dX0_ahead_56 (fun x_15 H locs hj_15 hP hS => ?_)
              refine lv_goto (tgt := 67) hx hb dX0_ahead_59 (by decide) ?_
              have ho : o_ahead r (nI a_) (nI w_) (nI n_) = (p_told (p_goes n_ r) a_ w_, r, none) := by first | (simp only [o_ahead, c_34, c_49, hcl_w_, hw7, hcl_a_, hcl_n_, reduceIte, and_self, oF, oK]; done) | (simp [o_ahead, oF, oK, fnd, c_34, c_49, hcl_w_, hw7, hcl_a_, hcl_n_]; done) | (unfold o_ahead oF oK; grind)
              exact kk_iretW S hr hlk hS (by rw [ho]; exact ⟨_, ((cJ.rf _)).tr hj_15, hP⟩) (by rw [ho]) dX0_ahead_67
      · skip
        refine lv_iload_n hx hb dX0_ahead_16 rfl (lv_at hl 2 rfl) ?_
        refine lv_bipush (v := 7) hx hb dX0_ahead_17 (by decide) ?_
        refine lv_icmp_ne (tgt := 26) hx hb dX0_ahead_19 (by decide) (fun c_19 => ?_) (fun c_19 => ?_)
        · skip
          have hw7 : ¬ (w = 2 ∨ (5 ≤ w ∧ w ≤ 7)) := by grind
          refine lv_iconst (v := 0) hx hb dX0_ahead_26 (by decide) ?_
          refine lv_istore (lv' := [(4, .int (0)), (0, .ref (t.2.1 0)), (1, .int (a)), (2, .int (w)), (3, .int (n))]) hx hb dX0_ahead_27 hl (by decide) rfl (fun ls hl => ?_)
          refine lv_aload_n hx hb dX0_ahead_29 rfl (lv_at hl 1 rfl) ?_
          refine lv_iload_n hx hb dX0_ahead_30 rfl (lv_at hl 2 rfl) ?_
          refine cc_isCask S hK hP (rm_ok (Nat.le_of_ble_eq_true rfl)) hl.1 (b) hV (Nat.le_of_ble_eq_true rfl) dX0_ahead_31 ?_
          refine kb_ifeq (tgt := 62) S dX0_ahead_34 (by decide) (fun c_34 => ?_) (fun c_34 => ?_)
          · skip
            refine lv_aload_n hx hb dX0_ahead_62 rfl (lv_at hl 1 rfl) ?_
            refine lv_iconst (v := 0) hx hb dX0_ahead_63 (by decide) ?_
            refine cc_finding S hK hP hS (rm_ok (Nat.le_of_ble_eq_true rfl)) hl.1 (0) (by omega) rfl (Nat.le_of_ble_eq_true rfl) dX0_ahead_64 (fun H locs hP hS => ?_)
            have ho : o_ahead r a w n = (fnd 0, r, some 0) := by first | (simp only [o_ahead, c_34, hw7, reduceIte, and_self, oF, oK]; done) | (simp [o_ahead, oF, oK, fnd, c_34, hw7]; done) | (unfold o_ahead oF oK; grind)
            exact kk_iretW S hr hlk hS (by rw [ho]; exact ⟨_, ((cJ.rf _)).fnd 0, hP⟩) (by rw [ho]) dX0_ahead_67
          · skip
            obtain ⟨a_, ha_, rfl⟩ := nat_of_lt (n := pN r) (hn) (by omega) c_34
            have hcl_a_ := nI_clamp (n := a_) (by omega)
            refine lv_iload hx hb dX0_ahead_37 (lv_at hl 0 rfl) ?_
            refine kb_eq0_n (tgt := 62) (a := 0) S rfl (by omega) dX0_ahead_39 (by decide) (fun c_39 => ?_) (fun c_39 => ?_)
            · skip
              refine lv_aload_n hx hb dX0_ahead_62 rfl (lv_at hl 1 rfl) ?_
              refine lv_iconst (v := 0) hx hb dX0_ahead_63 (by decide) ?_
              refine cc_finding S hK hP hS (rm_ok (Nat.le_of_ble_eq_true rfl)) hl.1 (0) (by omega) rfl (Nat.le_of_ble_eq_true rfl) dX0_ahead_64 (fun H locs hP hS => ?_)
              have ho : o_ahead r (nI a_) w n = (fnd 0, r, some 0) := by first | (simp only [o_ahead, c_34, hw7, hcl_a_, reduceIte, and_self, oF, oK]; done) | (simp [o_ahead, oF, oK, fnd, c_34, hw7, hcl_a_]; done) | (unfold o_ahead oF oK; grind)
              exact kk_iretW S hr hlk hS (by rw [ho]; exact ⟨_, ((cJ.rf _)).fnd 0, hP⟩) (by rw [ho]) dX0_ahead_67
            · exact absurd c_39 (by first | decide | omega)
        · skip
          have hw7 : (w = 2 ∨ (5 ≤ w ∧ w ≤ 7)) := by grind
          obtain ⟨w_, hw_, rfl⟩ := nat_of_le (n := 7) (x := w) (N := 7) rfl (by omega) (by grind)
          have hcl_w_ := nI_clamp (n := w_) (by omega)
          refine lv_iconst (v := 1) hx hb dX0_ahead_22 (by decide) ?_
          refine lv_goto (tgt := 27) hx hb dX0_ahead_23 (by decide) ?_
          refine lv_istore (lv' := [(4, .int (1)), (0, .ref (t.2.1 0)), (1, .int (a)), (2, .int ((nI w_))), (3, .int (n))]) hx hb dX0_ahead_27 hl (by decide) rfl (fun ls hl => ?_)
          refine lv_aload_n hx hb dX0_ahead_29 rfl (lv_at hl 1 rfl) ?_
          refine lv_iload_n hx hb dX0_ahead_30 rfl (lv_at hl 2 rfl) ?_
          refine cc_isCask S hK hP (rm_ok (Nat.le_of_ble_eq_true rfl)) hl.1 (b) hV (Nat.le_of_ble_eq_true rfl) dX0_ahead_31 ?_
          refine kb_ifeq (tgt := 62) S dX0_ahead_34 (by decide) (fun c_34 => ?_) (fun c_34 => ?_)
          · skip
            refine lv_aload_n hx hb dX0_ahead_62 rfl (lv_at hl 1 rfl) ?_
            refine lv_iconst (v := 0) hx hb dX0_ahead_63 (by decide) ?_
            refine cc_finding S hK hP hS (rm_ok (Nat.le_of_ble_eq_true rfl)) hl.1 (0) (by omega) rfl (Nat.le_of_ble_eq_true rfl) dX0_ahead_64 (fun H locs hP hS => ?_)
            have ho : o_ahead r a (nI w_) n = (fnd 0, r, some 0) := by first | (simp only [o_ahead, c_34, hcl_w_, hw7, reduceIte, and_self, oF, oK]; done) | (simp [o_ahead, oF, oK, fnd, c_34, hcl_w_, hw7]; done) | (unfold o_ahead oF oK; grind)
            exact kk_iretW S hr hlk hS (by rw [ho]; exact ⟨_, ((cJ.rf _)).fnd 0, hP⟩) (by rw [ho]) dX0_ahead_67
          · skip
            obtain ⟨a_, ha_, rfl⟩ := nat_of_lt (n := pN r) (hn) (by omega) c_34
            have hcl_a_ := nI_clamp (n := a_) (by omega)
            refine lv_iload hx hb dX0_ahead_37 (lv_at hl 0 rfl) ?_
            refine kb_eq0_n (tgt := 62) (a := 1) S rfl (by omega) dX0_ahead_39 (by decide) (fun c_39 => ?_) (fun c_39 => ?_)
            · exact absurd c_39 (by first | decide | omega)
            · skip
              refine lv_iload_n hx hb dX0_ahead_42 rfl (lv_at hl 4 rfl) ?_
              refine lv_iconst (v := 0) hx hb dX0_ahead_43 (by decide) ?_
              refine lv_bipush (v := 100) hx hb dX0_ahead_44 (by decide) ?_
              refine cc_in S (rm_ok (Nat.le_of_ble_eq_true rfl)) hl.1 (Nat.le_of_ble_eq_true rfl) dX0_ahead_46 ?_
              refine kb_ifeq (tgt := 62) S dX0_ahead_49 (by decide) (fun c_49 => ?_) (fun c_49 => ?_)
              · skip
                refine lv_aload_n hx hb dX0_ahead_62 rfl (lv_at hl 1 rfl) ?_
                refine lv_iconst (v := 0) hx hb dX0_ahead_63 (by decide) ?_
                refine cc_finding S hK hP hS (rm_ok (Nat.le_of_ble_eq_true rfl)) hl.1 (0) (by omega) rfl (Nat.le_of_ble_eq_true rfl) dX0_ahead_64 (fun H locs hP hS => ?_)
                have ho : o_ahead r (nI a_) (nI w_) n = (fnd 0, r, some 0) := by first | (simp only [o_ahead, c_34, c_49, hcl_w_, hw7, hcl_a_, reduceIte, and_self, oF, oK]; done) | (simp [o_ahead, oF, oK, fnd, c_34, c_49, hcl_w_, hw7, hcl_a_]; done) | (unfold o_ahead oF oK; grind)
                exact kk_iretW S hr hlk hS (by rw [ho]; exact ⟨_, ((cJ.rf _)).fnd 0, hP⟩) (by rw [ho]) dX0_ahead_67
              · skip
                obtain ⟨n_, hn_, rfl⟩ := nat_of_le (n := 100) (rfl) (by omega) c_49
                have hcl_n_ := nI_clamp (n := n_) (by omega)
                refine lv_aload_n hx hb dX0_ahead_52 rfl (lv_at hl 1 rfl) ?_
                refine lv_iload_n hx hb dX0_ahead_53 rfl (lv_at hl 2 rfl) ?_
                refine lv_iload_n hx hb dX0_ahead_54 rfl (lv_at hl 3 rfl) ?_
                refine lv_iload_n hx hb dX0_ahead_55 rfl (lv_at hl 4 rfl) ?_
                refine cc_toldBehind S hK hP hS (rm_ok (Nat.le_of_ble_eq_true rfl)) hl.1 (a_) (w_) (n_) (b) (by omega) (by omega) hV (by omega) rfl rfl rfl (Nat.le_of_ble_eq_true rfl) dX0_ahead_56 (fun x_23 H locs hj_23 hP hS => ?_)
                refine lv_goto (tgt := 67) hx hb dX0_ahead_59 (by decide) ?_
                have ho : o_ahead r (nI a_) (nI w_) (nI n_) = (p_told (p_goes n_ r) a_ w_, r, none) := by first | (simp only [o_ahead, c_34, c_49, hcl_w_, hw7, hcl_a_, hcl_n_, reduceIte, and_self, oF, oK]; done) | (simp [o_ahead, oF, oK, fnd, c_34, c_49, hcl_w_, hw7, hcl_a_, hcl_n_]; done) | (unfold o_ahead oF oK; grind)
                exact kk_iretW S hr hlk hS (by rw [ho]; exact ⟨_, ((cJ.rf _)).tr hj_23, hP⟩) (by rw [ho]) dX0_ahead_67
set_option maxHeartbeats 4000000 in
set_option maxRecDepth 100000 in
theorem k0_claps (l : Launch) (t : CT) (r : Rw) (x : Nat → Rw) (n : Int32) (b : Nat) (hV : pV b r) (hb : b ≤ 99999) : Met l yX0_claps (ws_ yX0_claps cX0_claps 2 (some .int)) (rmF 11) (va_Pc [.ref (t.2.1 0), .int n] (fun U => cK t U ∧ cX t r x U.heap)) (kW (some (.int ((o_claps r n).1))) (fun H => ∃ x1, cJ (fx x (o_claps r n).2.2) x1 ∧ cX t ((o_claps r n).2.1) x1 H) (cA t)) 0 0 (cA t) := by
  refine kk_start (by decide) (Nat.le_of_ble_eq_true rfl) ?_
  intro p e s m below meth c S hr hlk hin hB ls hl
  obtain ⟨hK, hP⟩ := hB
  have hx := S.1
  have hb := S.2.1
  have hown : s.vm.findClass RX0 = some m.cls := S.2.2.2.1
  have hts := S.2.2.2.2
  have hS : va_S (cA t) s.heap s.heap [] := va_S.rf
  have hl : lv_has ls 2 [(0, .ref (t.2.1 0)), (1, .int (n))] := hl
  refine lv_iload_n hx hb dX0_claps_0 rfl (lv_at hl 1 rfl) ?_
  refine lv_iconst (v := 0) hx hb dX0_claps_1 (by decide) ?_
  refine lv_bipush (v := 100) hx hb dX0_claps_2 (by decide) ?_
  refine cc_in S (rm_ok (Nat.le_of_ble_eq_true rfl)) hl.1 (Nat.le_of_ble_eq_true rfl) dX0_claps_4 ?_
  refine kb_ifeq (tgt := 18) S dX0_claps_7 (by decide) (fun c_7 => ?_) (fun c_7 => ?_)
  · skip
    refine lv_aload_n hx hb dX0_claps_18 rfl (lv_at hl 0 rfl) ?_
    refine lv_iconst (v := 0) hx hb dX0_claps_19 (by decide) ?_
    refine cc_finding S hK hP hS (rm_ok (Nat.le_of_ble_eq_true rfl)) hl.1 (0) (by omega) rfl (Nat.le_of_ble_eq_true rfl) dX0_claps_20 (fun H locs hP hS => ?_)
    have ho : o_claps r n = (fnd 0, r, some 0) := by first | (simp only [o_claps, c_7, reduceIte, and_self, oF, oK]; done) | (simp [o_claps, oF, oK, fnd, c_7]; done) | (unfold o_claps oF oK; grind)
    exact kk_iretW S hr hlk hS (by rw [ho]; exact ⟨_, ((cJ.rf _)).fnd 0, hP⟩) (by rw [ho]) dX0_claps_23
  · skip
    obtain ⟨n_, hn_, rfl⟩ := nat_of_le (n := 100) (rfl) (by omega) c_7
    have hcl_n_ := nI_clamp (n := n_) (by omega)
    refine lv_aload_n hx hb dX0_claps_10 rfl (lv_at hl 0 rfl) ?_
    refine lv_iload_n hx hb dX0_claps_11 rfl (lv_at hl 1 rfl) ?_
    refine cc_clapsBehind S hK hP hS (rm_ok (Nat.le_of_ble_eq_true rfl)) hl.1 (n_) (b) hV (by omega) rfl (Nat.le_of_ble_eq_true rfl) dX0_claps_12 (fun x_3 H locs hj_3 hP hS => ?_)
    refine lv_goto (tgt := 23) hx hb dX0_claps_15 (by decide) ?_
    have ho : o_claps r (nI n_) = (p_goes n_ r 3, r, none) := by first | (simp only [o_claps, c_7, hcl_n_, reduceIte, and_self, oF, oK]; done) | (simp [o_claps, oF, oK, fnd, c_7, hcl_n_]; done) | (unfold o_claps oF oK; grind)
    exact kk_iretW S hr hlk hS (by rw [ho]; exact ⟨_, ((cJ.rf _)).tr hj_3, hP⟩) (by rw [ho]) dX0_claps_23
set_option maxHeartbeats 4000000 in
set_option maxRecDepth 100000 in
theorem k0_bursts (l : Launch) (t : CT) (r : Rw) (x : Nat → Rw) (a : Int32) (b : Nat) (hV : pV b r) (hb : b ≤ 99999) : Met l yX0_bursts (ws_ yX0_bursts cX0_bursts 2 (some .int)) (rmF 9) (va_Pc [.ref (t.2.1 0), .int a] (fun U => cK t U ∧ cX t r x U.heap)) (kW (some (.int ((o_bursts r a).1))) (fun H => ∃ x1, cJ (fx x (o_bursts r a).2.2) x1 ∧ cX t ((o_bursts r a).2.1) x1 H) (cA t)) 0 0 (cA t) := by
  refine kk_start (by decide) (Nat.le_of_ble_eq_true rfl) ?_
  intro p e s m below meth c S hr hlk hin hB ls hl
  obtain ⟨hK, hP⟩ := hB
  have hx := S.1
  have hb := S.2.1
  have hown : s.vm.findClass RX0 = some m.cls := S.2.2.2.1
  have hts := S.2.2.2.2
  have hS : va_S (cA t) s.heap s.heap [] := va_S.rf
  have hl : lv_has ls 2 [(0, .ref (t.2.1 0)), (1, .int (a))] := hl
  have hn := hV.n.1
  have hn8 := hV.n.2
  refine lv_aload_n hx hb dX0_bursts_0 rfl (lv_at hl 0 rfl) ?_
  refine lv_iload_n hx hb dX0_bursts_1 rfl (lv_at hl 1 rfl) ?_
  refine cc_isCask S hK hP (rm_ok (Nat.le_of_ble_eq_true rfl)) hl.1 (b) hV (Nat.le_of_ble_eq_true rfl) dX0_bursts_2 ?_
  refine kb_ifeq (tgt := 20) S dX0_bursts_5 (by decide) (fun c_5 => ?_) (fun c_5 => ?_)
  · skip
    refine lv_aload_n hx hb dX0_bursts_20 rfl (lv_at hl 0 rfl) ?_
    refine lv_iconst (v := 0) hx hb dX0_bursts_21 (by decide) ?_
    refine cc_finding S hK hP hS (rm_ok (Nat.le_of_ble_eq_true rfl)) hl.1 (0) (by omega) rfl (Nat.le_of_ble_eq_true rfl) dX0_bursts_22 (fun H locs hP hS => ?_)
    have ho : o_bursts r a = (fnd 0, r, some 0) := by first | (simp only [o_bursts, c_5, reduceIte, and_self, oF, oK]; done) | (simp [o_bursts, oF, oK, fnd, c_5]; done) | (unfold o_bursts oF oK; grind)
    exact kk_iretW S hr hlk hS (by rw [ho]; exact ⟨_, ((cJ.rf _)).fnd 0, hP⟩) (by rw [ho]) dX0_bursts_25
  · skip
    obtain ⟨a_, ha_, rfl⟩ := nat_of_lt (n := pN r) (hn) (by omega) c_5
    have hcl_a_ := nI_clamp (n := a_) (by omega)
    refine lv_aload_n hx hb dX0_bursts_8 rfl (lv_at hl 0 rfl) ?_
    refine lv_aload_n hx hb dX0_bursts_9 rfl (lv_at hl 0 rfl) ?_
    refine lv_iload_n hx hb dX0_bursts_10 rfl (lv_at hl 1 rfl) ?_
    refine cc_burstBehind S hK hP hS (rm_ok (Nat.le_of_ble_eq_true rfl)) hl.1 (a_) (b) (by omega) hV (by omega) rfl (Nat.le_of_ble_eq_true rfl) dX0_bursts_11 (fun x_3 H locs hj_3 hP hS => ?_)
    refine cc_orNoneO S hK hP hS (rm_ok (Nat.le_of_ble_eq_true rfl)) hl.1 (fun i hi => Nat.lt_trans (p_until_lt hi) (by decide)) (Nat.le_of_ble_eq_true rfl) dX0_bursts_14 (fun H locs hP hS => ?_)
    refine lv_goto (tgt := 25) hx hb dX0_bursts_17 (by decide) ?_
    have ho : o_bursts r (nI a_) = (oU (p_bu r a_) r) := by first | (simp only [o_bursts, c_5, hcl_a_, reduceIte, and_self, oF, oK]; done) | (simp [o_bursts, oF, oK, fnd, c_5, hcl_a_]; done) | (unfold o_bursts oF oK; grind)
    exact kk_iretW S hr hlk hS (by rw [ho, oU_r]; exact ⟨_, (((cJ.rf _)).tr hj_3).fx (oU (p_bu r a_) r).2.2, hP⟩) (by rw [ho]) dX0_bursts_25
set_option maxHeartbeats 4000000 in
set_option maxRecDepth 100000 in
theorem k0_when (l : Launch) (t : CT) (r : Rw) (x : Nat → Rw) (a : Int32) (v : Int32) (b : Nat) (hV : pV b r) (hb : b ≤ 99999) : Met l yX0_when (ws_ yX0_when cX0_when 3 (some .int)) (rmF 9) (va_Pc [.ref (t.2.1 0), .int a, .int v] (fun U => cK t U ∧ cX t r x U.heap)) (kW (some (.int ((o_when r a v).1))) (fun H => ∃ x1, cJ (fx x (o_when r a v).2.2) x1 ∧ cX t ((o_when r a v).2.1) x1 H) (cA t)) 0 0 (cA t) := by
  refine kk_start (by decide) (Nat.le_of_ble_eq_true rfl) ?_
  intro p e s m below meth c S hr hlk hin hB ls hl
  obtain ⟨hK, hP⟩ := hB
  have hx := S.1
  have hb := S.2.1
  have hown : s.vm.findClass RX0 = some m.cls := S.2.2.2.1
  have hts := S.2.2.2.2
  have hS : va_S (cA t) s.heap s.heap [] := va_S.rf
  have hl : lv_has ls 3 [(0, .ref (t.2.1 0)), (1, .int (a)), (2, .int (v))] := hl
  have hn := hV.n.1
  have hn8 := hV.n.2
  refine lv_aload_n hx hb dX0_when_0 rfl (lv_at hl 0 rfl) ?_
  refine lv_iload_n hx hb dX0_when_1 rfl (lv_at hl 1 rfl) ?_
  refine cc_isCask S hK hP (rm_ok (Nat.le_of_ble_eq_true rfl)) hl.1 (b) hV (Nat.le_of_ble_eq_true rfl) dX0_when_2 ?_
  refine kb_ifeq (tgt := 32) S dX0_when_5 (by decide) (fun c_5 => ?_) (fun c_5 => ?_)
  · skip
    refine lv_aload_n hx hb dX0_when_32 rfl (lv_at hl 0 rfl) ?_
    refine lv_iconst (v := 0) hx hb dX0_when_33 (by decide) ?_
    refine cc_finding S hK hP hS (rm_ok (Nat.le_of_ble_eq_true rfl)) hl.1 (0) (by omega) rfl (Nat.le_of_ble_eq_true rfl) dX0_when_34 (fun H locs hP hS => ?_)
    have ho : o_when r a v = (fnd 0, r, some 0) := by first | (simp only [o_when, c_5, reduceIte, and_self, oF, oK]; done) | (simp [o_when, oF, oK, fnd, c_5]; done) | (unfold o_when oF oK; grind)
    exact kk_iretW S hr hlk hS (by rw [ho]; exact ⟨_, ((cJ.rf _)).fnd 0, hP⟩) (by rw [ho]) dX0_when_37
  · skip
    obtain ⟨a_, ha_, rfl⟩ := nat_of_lt (n := pN r) (hn) (by omega) c_5
    have hcl_a_ := nI_clamp (n := a_) (by omega)
    refine lv_iload_n hx hb dX0_when_8 rfl (lv_at hl 2 rfl) ?_
    refine lv_iconst (v := 0) hx hb dX0_when_9 (by decide) ?_
    refine lv_sipush (v := 2000) hx hb dX0_when_10 (by decide) ?_
    refine cc_in S (rm_ok (Nat.le_of_ble_eq_true rfl)) hl.1 (Nat.le_of_ble_eq_true rfl) dX0_when_13 ?_
    refine kb_ifeq (tgt := 32) S dX0_when_16 (by decide) (fun c_16 => ?_) (fun c_16 => ?_)
    · skip
      refine lv_aload_n hx hb dX0_when_32 rfl (lv_at hl 0 rfl) ?_
      refine lv_iconst (v := 0) hx hb dX0_when_33 (by decide) ?_
      refine cc_finding S hK hP hS (rm_ok (Nat.le_of_ble_eq_true rfl)) hl.1 (0) (by omega) rfl (Nat.le_of_ble_eq_true rfl) dX0_when_34 (fun H locs hP hS => ?_)
      have ho : o_when r (nI a_) v = (fnd 0, r, some 0) := by first | (simp only [o_when, c_5, c_16, hcl_a_, reduceIte, and_self, oF, oK]; done) | (simp [o_when, oF, oK, fnd, c_5, c_16, hcl_a_]; done) | (unfold o_when oF oK; grind)
      exact kk_iretW S hr hlk hS (by rw [ho]; exact ⟨_, ((cJ.rf _)).fnd 0, hP⟩) (by rw [ho]) dX0_when_37
    · skip
      refine lv_aload_n hx hb dX0_when_19 rfl (lv_at hl 0 rfl) ?_
      refine lv_aload_n hx hb dX0_when_20 rfl (lv_at hl 0 rfl) ?_
      refine lv_iload_n hx hb dX0_when_21 rfl (lv_at hl 1 rfl) ?_
      refine lv_iload_n hx hb dX0_when_22 rfl (lv_at hl 2 rfl) ?_
      refine cc_loudBehind S hK hP hS (rm_ok (Nat.le_of_ble_eq_true rfl)) hl.1 (a_) (b) (by omega) hV (by omega) rfl (Nat.le_of_ble_eq_true rfl) dX0_when_23 (fun x_5 H locs hj_5 hP hS => ?_)
      refine cc_orNoneO S hK hP hS (rm_ok (Nat.le_of_ble_eq_true rfl)) hl.1 (fun i hi => Nat.lt_trans (p_until_lt hi) (by decide)) (Nat.le_of_ble_eq_true rfl) dX0_when_26 (fun H locs hP hS => ?_)
      refine lv_goto (tgt := 37) hx hb dX0_when_29 (by decide) ?_
      have ho : o_when r (nI a_) v = (oU (p_wh r a_ v) r) := by first | (simp only [o_when, c_5, c_16, hcl_a_, reduceIte, and_self, oF, oK]; done) | (simp [o_when, oF, oK, fnd, c_5, c_16, hcl_a_]; done) | (unfold o_when oF oK; grind)
      exact kk_iretW S hr hlk hS (by rw [ho, oU_r]; exact ⟨_, (((cJ.rf _)).tr hj_5).fx (oU (p_wh r a_ v) r).2.2, hP⟩) (by rw [ho]) dX0_when_37
set_option maxHeartbeats 4000000 in
set_option maxRecDepth 100000 in
theorem k0_chain (l : Launch) (t : CT) (r : Rw) (x : Nat → Rw) (n : Int32) (b : Nat) (hV : pV b r) (hb : b ≤ 99999) : Met l yX0_chain (ws_ yX0_chain cX0_chain 2 (some .int)) (rmF 10) (va_Pc [.ref (t.2.1 0), .int n] (fun U => cK t U ∧ cX t r x U.heap)) (kW (some (.int ((o_chain r n).1))) (fun H => ∃ x1, cJ (fx x (o_chain r n).2.2) x1 ∧ cX t ((o_chain r n).2.1) x1 H) (cA t)) 0 0 (cA t) := by
  refine kk_start (by decide) (Nat.le_of_ble_eq_true rfl) ?_
  intro p e s m below meth c S hr hlk hin hB ls hl
  obtain ⟨hK, hP⟩ := hB
  have hx := S.1
  have hb := S.2.1
  have hown : s.vm.findClass RX0 = some m.cls := S.2.2.2.1
  have hts := S.2.2.2.2
  have hS : va_S (cA t) s.heap s.heap [] := va_S.rf
  have hl : lv_has ls 2 [(0, .ref (t.2.1 0)), (1, .int (n))] := hl
  refine lv_iload_n hx hb dX0_chain_0 rfl (lv_at hl 1 rfl) ?_
  refine lv_iconst (v := 0) hx hb dX0_chain_1 (by decide) ?_
  refine lv_bipush (v := 60) hx hb dX0_chain_2 (by decide) ?_
  refine cc_in S (rm_ok (Nat.le_of_ble_eq_true rfl)) hl.1 (Nat.le_of_ble_eq_true rfl) dX0_chain_4 ?_
  refine kb_ifeq (tgt := 18) S dX0_chain_7 (by decide) (fun c_7 => ?_) (fun c_7 => ?_)
  · skip
    refine lv_aload_n hx hb dX0_chain_18 rfl (lv_at hl 0 rfl) ?_
    refine lv_iconst (v := 0) hx hb dX0_chain_19 (by decide) ?_
    refine cc_finding S hK hP hS (rm_ok (Nat.le_of_ble_eq_true rfl)) hl.1 (0) (by omega) rfl (Nat.le_of_ble_eq_true rfl) dX0_chain_20 (fun H locs hP hS => ?_)
    have ho : o_chain r n = (fnd 0, r, some 0) := by first | (simp only [o_chain, c_7, reduceIte, and_self, oF, oK]; done) | (simp [o_chain, oF, oK, fnd, c_7]; done) | (unfold o_chain oF oK; grind)
    exact kk_iretW S hr hlk hS (by rw [ho]; exact ⟨_, ((cJ.rf _)).fnd 0, hP⟩) (by rw [ho]) dX0_chain_23
  · skip
    obtain ⟨n_, hn_, rfl⟩ := nat_of_le (n := 60) (rfl) (by omega) c_7
    have hcl_n_ := nI_clamp (n := n_) (by omega)
    refine lv_aload_n hx hb dX0_chain_10 rfl (lv_at hl 0 rfl) ?_
    refine lv_iload_n hx hb dX0_chain_11 rfl (lv_at hl 1 rfl) ?_
    refine cc_burstOnes S hK hP hS (rm_ok (Nat.le_of_ble_eq_true rfl)) hl.1 (n_) (b) hV (by omega) rfl (Nat.le_of_ble_eq_true rfl) dX0_chain_12 (fun x_3 H locs hj_3 hP hS => ?_)
    refine lv_goto (tgt := 23) hx hb dX0_chain_15 (by decide) ?_
    have ho : o_chain r (nI n_) = (nI (p_chain r (p_goes n_ r)), r, none) := by first | (simp only [o_chain, c_7, hcl_n_, reduceIte, and_self, oF, oK]; done) | (simp [o_chain, oF, oK, fnd, c_7, hcl_n_]; done) | (unfold o_chain oF oK; grind)
    exact kk_iretW S hr hlk hS (by rw [ho]; exact ⟨_, ((cJ.rf _)).tr hj_3, hP⟩) (by rw [ho]) dX0_chain_23
section CC
variable {p : Program} {l : Launch} {e : Env} {R : Room} {s : State} {m : MethodId} {args : Array Value} {below : List Frame} {meth : Method} {c : Code} {H H0 : Heap} {locs : List Loc} {cells slots : Nat} {Q : State → Prop}
variable {cc : ByteArray} {pc nL : Nat} {ls : Array Slot} {rest : List Value} {t : CT} {r : Rw} {x : Nat → Rw}
end CC

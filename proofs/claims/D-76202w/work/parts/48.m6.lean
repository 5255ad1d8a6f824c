set_option maxHeartbeats 4000000 in
set_option maxRecDepth 100000 in
theorem k_ahead (l : Launch) (t : MT) (r : Rw) (x : Nat → Rw) (a : Int32) (w : Int32) (n : Int32) (b : Nat) (hV : pV b r) (hb : b ≤ 99999) : Met l yX13_ahead (ws_ yX13_ahead cX13_ahead 5 (some .int)) (rmF 7) (va_Pc [.ref (t.2.1 0), .int a, .int w, .int n] (fun U => mK t U ∧ mW t r x U.heap)) (kW (some (.int ((o_ahead r a w n).1))) (fun H => ∃ f, mW t ((o_ahead r a w n).2.1) (va_up (fx x (o_ahead r a w n).2.2) 3 f) H) (mA t)) 0 0 (mA t) := by
  refine kk_start (by decide) (Nat.le_of_ble_eq_true rfl) ?_
  intro p e s m below meth c S hr hlk hin hB ls hl
  obtain ⟨hK, hP⟩ := hB
  have hx := S.1
  have hb := S.2.1
  have hown : s.vm.findClass RX13 = some m.cls := S.2.2.2.1
  have hts := S.2.2.2.2
  have hS : va_S (mA t) s.heap s.heap [] := va_S.rf
  have hl : lv_has ls 5 [(0, .ref (t.2.1 0)), (1, .int (a)), (2, .int (w)), (3, .int (n))] := hl
  have hn := hV.n.1
  have hn8 := hV.n.2
  refine lv_aload_n hx hb dX13_ahead_0 rfl (lv_at hl 0 rfl) ?_
  refine lv_iload_n hx hb dX13_ahead_1 rfl (lv_at hl 1 rfl) ?_
  refine c_isCask S hK hP (rm_ok (Nat.le_of_ble_eq_true rfl)) hl.1 (Nat.le_of_ble_eq_true rfl) dX13_ahead_2 ?_
  refine kb_ifeq (tgt := 43) S dX13_ahead_5 (by decide) (fun c_5 => ?_) (fun c_5 => ?_)
  · skip
    refine lv_iconst (v := 0) hx hb dX13_ahead_43 (by decide) ?_
    refine lv_istore (lv' := [(4, .int (0)), (0, .ref (t.2.1 0)), (1, .int (a)), (2, .int (w)), (3, .int (n))]) hx hb dX13_ahead_44 hl (by decide) rfl (fun ls hl => ?_)
    refine lv_iload hx hb dX13_ahead_46 (lv_at hl 0 rfl) ?_
    refine kb_eq0_n (tgt := 61) (a := 0) S rfl (by omega) dX13_ahead_48 (by decide) (fun c_48 => ?_) (fun c_48 => ?_)
    · skip
      refine lv_aload_n hx hb dX13_ahead_61 rfl (lv_at hl 1 rfl) ?_
      refine lv_ldc (v := (-1000001)) hx hb hown (hts _ q1305) dX13_ahead_62 ?_
      refine c_finds S hK hP hS (rm_ok (Nat.le_of_ble_eq_true rfl)) hl.1 (0) (by decide) (by decide) (Nat.le_of_ble_eq_true rfl) dX13_ahead_64 (fun H locs hP hS => ?_)
      exact kk_iretW S hr hlk hS (by simp only [o_ahead, c_5, reduceIte, and_self, oF, oK, fx]; exact mW_a hP) (by simp only [o_ahead, c_5, reduceIte, and_self, oF, oK, fnd] <;> first | rfl | decide) dX13_ahead_67
    · exact absurd c_48 (by first | decide | omega)
  · skip
    refine lv_iload_n hx hb dX13_ahead_8 rfl (lv_at hl 2 rfl) ?_
    refine lv_iconst (v := 2) hx hb dX13_ahead_9 (by decide) ?_
    refine lv_icmp_eq (tgt := 27) hx hb dX13_ahead_10 (by decide) (fun c_10 => ?_) (fun c_10 => ?_)
    · skip
      have hw7 : w = 2 ∨ (5 ≤ w ∧ w ≤ 7) := Or.inl c_10
      obtain ⟨w_, hw_, rfl⟩ := nat_of_le (n := 7) (x := w) (N := 7) rfl (by omega) (by grind)
      have hcl_w_ := nI_clamp (n := w_) (by omega)
      refine lv_iload_n hx hb dX13_ahead_27 rfl (lv_at hl 3 rfl) ?_
      refine lv_i2l hx hb dX13_ahead_28 rfl ?_
      refine lv_lconst (v := (0 : Int32).toInt64) hx hb dX13_ahead_29 (by decide) ?_
      refine lv_ldc2 (v := ((100) : Int32).toInt64) hx hb hown (hts _ q1442) dX13_ahead_30 ?_
      refine c_isIn S (rm_ok (Nat.le_of_ble_eq_true rfl)) hl.1 (Nat.le_of_ble_eq_true rfl) dX13_ahead_33 ?_
      refine kb_ifeq (tgt := 43) S dX13_ahead_36 (by decide) (fun c_36 => ?_) (fun c_36 => ?_)
      · skip
        refine lv_iconst (v := 0) hx hb dX13_ahead_43 (by decide) ?_
        refine lv_istore (lv' := [(4, .int (0)), (0, .ref (t.2.1 0)), (1, .int (a)), (2, .int ((nI w_))), (3, .int (n))]) hx hb dX13_ahead_44 hl (by decide) rfl (fun ls hl => ?_)
        refine lv_iload hx hb dX13_ahead_46 (lv_at hl 0 rfl) ?_
        refine kb_eq0_n (tgt := 61) (a := 0) S rfl (by omega) dX13_ahead_48 (by decide) (fun c_48 => ?_) (fun c_48 => ?_)
        · skip
          refine lv_aload_n hx hb dX13_ahead_61 rfl (lv_at hl 1 rfl) ?_
          refine lv_ldc (v := (-1000001)) hx hb hown (hts _ q1305) dX13_ahead_62 ?_
          refine c_finds S hK hP hS (rm_ok (Nat.le_of_ble_eq_true rfl)) hl.1 (0) (by decide) (by decide) (Nat.le_of_ble_eq_true rfl) dX13_ahead_64 (fun H locs hP hS => ?_)
          exact kk_iretW S hr hlk hS (by simp only [o_ahead, c_5, c_36, hcl_w_, hw7, reduceIte, and_self, oF, oK, fx]; exact mW_a hP) (by simp only [o_ahead, c_5, c_36, hcl_w_, hw7, reduceIte, and_self, oF, oK, fnd] <;> first | rfl | decide) dX13_ahead_67
        · exact absurd c_48 (by first | decide | omega)
      · skip
        obtain ⟨a_, ha_, rfl⟩ := nat_of_lt (n := pN r) (hn) (by omega) c_5
        have hcl_a_ := nI_clamp (n := a_) (by omega)
        obtain ⟨n_, hn_, rfl⟩ := nat_of_le (n := 100) (rfl) (by omega) c_36
        have hcl_n_ := nI_clamp (n := n_) (by omega)
        refine lv_iconst (v := 1) hx hb dX13_ahead_39 (by decide) ?_
        refine lv_goto (tgt := 44) hx hb dX13_ahead_40 (by decide) ?_
        refine lv_istore (lv' := [(4, .int (1)), (0, .ref (t.2.1 0)), (1, .int ((nI a_))), (2, .int ((nI w_))), (3, .int ((nI n_)))]) hx hb dX13_ahead_44 hl (by decide) rfl (fun ls hl => ?_)
        refine lv_iload hx hb dX13_ahead_46 (lv_at hl 0 rfl) ?_
        refine kb_eq0_n (tgt := 61) (a := 1) S rfl (by omega) dX13_ahead_48 (by decide) (fun c_48 => ?_) (fun c_48 => ?_)
        · exact absurd c_48 (by first | decide | omega)
        · skip
          refine lv_aload_n hx hb dX13_ahead_51 rfl (lv_at hl 1 rfl) ?_
          refine lv_iload_n hx hb dX13_ahead_52 rfl (lv_at hl 2 rfl) ?_
          refine lv_iload_n hx hb dX13_ahead_53 rfl (lv_at hl 3 rfl) ?_
          refine lv_iload_n hx hb dX13_ahead_54 rfl (lv_at hl 4 rfl) ?_
          refine c_then S hK hP hS (rm_ok (Nat.le_of_ble_eq_true rfl)) hl.1 (a_) (w_) (n_) (b) (by omega) (by omega) hV (by omega) rfl rfl rfl (Nat.le_of_ble_eq_true rfl) dX13_ahead_55 (fun H locs hP hS => ?_)
          refine lv_goto (tgt := 67) hx hb dX13_ahead_58 (by decide) ?_
          exact kk_iretW S hr hlk hS (by simp only [o_ahead, c_5, c_36, hcl_w_, hw7, hcl_a_, hcl_n_, reduceIte, and_self, oF, oK, fx]; exact ⟨_, hP⟩) (by simp only [o_ahead, c_5, c_36, hcl_w_, hw7, hcl_a_, hcl_n_, reduceIte, and_self, oF, oK, fnd] <;> first | rfl | decide) dX13_ahead_67
    · skip
      refine lv_iload_n hx hb dX13_ahead_13 rfl (lv_at hl 2 rfl) ?_
      refine lv_i2l hx hb dX13_ahead_14 rfl ?_
      refine lv_ldc2 (v := ((5) : Int32).toInt64) hx hb hown (hts _ q1440) dX13_ahead_15 ?_
      refine lv_ldc2 (v := ((7) : Int32).toInt64) hx hb hown (hts _ q1441) dX13_ahead_18 ?_
      refine c_isIn S (rm_ok (Nat.le_of_ble_eq_true rfl)) hl.1 (Nat.le_of_ble_eq_true rfl) dX13_ahead_21 ?_
      refine kb_ifeq (tgt := 43) S dX13_ahead_24 (by decide) (fun c_24 => ?_) (fun c_24 => ?_)
      · skip
        have hw7 : ¬ (w = 2 ∨ (5 ≤ w ∧ w ≤ 7)) := by grind
        refine lv_iconst (v := 0) hx hb dX13_ahead_43 (by decide) ?_
        refine lv_istore (lv' := [(4, .int (0)), (0, .ref (t.2.1 0)), (1, .int (a)), (2, .int (w)), (3, .int (n))]) hx hb dX13_ahead_44 hl (by decide) rfl (fun ls hl => ?_)
        refine lv_iload hx hb dX13_ahead_46 (lv_at hl 0 rfl) ?_
        refine kb_eq0_n (tgt := 61) (a := 0) S rfl (by omega) dX13_ahead_48 (by decide) (fun c_48 => ?_) (fun c_48 => ?_)
        · skip
          refine lv_aload_n hx hb dX13_ahead_61 rfl (lv_at hl 1 rfl) ?_
          refine lv_ldc (v := (-1000001)) hx hb hown (hts _ q1305) dX13_ahead_62 ?_
          refine c_finds S hK hP hS (rm_ok (Nat.le_of_ble_eq_true rfl)) hl.1 (0) (by decide) (by decide) (Nat.le_of_ble_eq_true rfl) dX13_ahead_64 (fun H locs hP hS => ?_)
          exact kk_iretW S hr hlk hS (by simp only [o_ahead, c_5, hw7, reduceIte, and_self, oF, oK, fx]; exact mW_a hP) (by simp only [o_ahead, c_5, hw7, reduceIte, and_self, oF, oK, fnd] <;> first | rfl | decide) dX13_ahead_67
        · exact absurd c_48 (by first | decide | omega)
      · skip
        have hw7 : w = 2 ∨ (5 ≤ w ∧ w ≤ 7) := Or.inr c_24
        obtain ⟨w_, hw_, rfl⟩ := nat_of_le (n := 7) (x := w) (N := 7) rfl (by omega) (by grind)
        have hcl_w_ := nI_clamp (n := w_) (by omega)
        refine lv_iload_n hx hb dX13_ahead_27 rfl (lv_at hl 3 rfl) ?_
        refine lv_i2l hx hb dX13_ahead_28 rfl ?_
        refine lv_lconst (v := (0 : Int32).toInt64) hx hb dX13_ahead_29 (by decide) ?_
        refine lv_ldc2 (v := ((100) : Int32).toInt64) hx hb hown (hts _ q1442) dX13_ahead_30 ?_
        refine c_isIn S (rm_ok (Nat.le_of_ble_eq_true rfl)) hl.1 (Nat.le_of_ble_eq_true rfl) dX13_ahead_33 ?_
        refine kb_ifeq (tgt := 43) S dX13_ahead_36 (by decide) (fun c_36 => ?_) (fun c_36 => ?_)
        · skip
          refine lv_iconst (v := 0) hx hb dX13_ahead_43 (by decide) ?_
          refine lv_istore (lv' := [(4, .int (0)), (0, .ref (t.2.1 0)), (1, .int (a)), (2, .int ((nI w_))), (3, .int (n))]) hx hb dX13_ahead_44 hl (by decide) rfl (fun ls hl => ?_)
          refine lv_iload hx hb dX13_ahead_46 (lv_at hl 0 rfl) ?_
          refine kb_eq0_n (tgt := 61) (a := 0) S rfl (by omega) dX13_ahead_48 (by decide) (fun c_48 => ?_) (fun c_48 => ?_)
          · skip
            refine lv_aload_n hx hb dX13_ahead_61 rfl (lv_at hl 1 rfl) ?_
            refine lv_ldc (v := (-1000001)) hx hb hown (hts _ q1305) dX13_ahead_62 ?_
            refine c_finds S hK hP hS (rm_ok (Nat.le_of_ble_eq_true rfl)) hl.1 (0) (by decide) (by decide) (Nat.le_of_ble_eq_true rfl) dX13_ahead_64 (fun H locs hP hS => ?_)
            exact kk_iretW S hr hlk hS (by simp only [o_ahead, c_5, c_36, hcl_w_, hw7, reduceIte, and_self, oF, oK, fx]; exact mW_a hP) (by simp only [o_ahead, c_5, c_36, hcl_w_, hw7, reduceIte, and_self, oF, oK, fnd] <;> first | rfl | decide) dX13_ahead_67
          · exact absurd c_48 (by first | decide | omega)
        · skip
          obtain ⟨a_, ha_, rfl⟩ := nat_of_lt (n := pN r) (hn) (by omega) c_5
          have hcl_a_ := nI_clamp (n := a_) (by omega)
          obtain ⟨n_, hn_, rfl⟩ := nat_of_le (n := 100) (rfl) (by omega) c_36
          have hcl_n_ := nI_clamp (n := n_) (by omega)
          refine lv_iconst (v := 1) hx hb dX13_ahead_39 (by decide) ?_
          refine lv_goto (tgt := 44) hx hb dX13_ahead_40 (by decide) ?_
          refine lv_istore (lv' := [(4, .int (1)), (0, .ref (t.2.1 0)), (1, .int ((nI a_))), (2, .int ((nI w_))), (3, .int ((nI n_)))]) hx hb dX13_ahead_44 hl (by decide) rfl (fun ls hl => ?_)
          refine lv_iload hx hb dX13_ahead_46 (lv_at hl 0 rfl) ?_
          refine kb_eq0_n (tgt := 61) (a := 1) S rfl (by omega) dX13_ahead_48 (by decide) (fun c_48 => ?_) (fun c_48 => ?_)
          · exact absurd c_48 (by first | decide | omega)
          · skip
            refine lv_aload_n hx hb dX13_ahead_51 rfl (lv_at hl 1 rfl) ?_
            refine lv_iload_n hx hb dX13_ahead_52 rfl (lv_at hl 2 rfl) ?_
            refine lv_iload_n hx hb dX13_ahead_53 rfl (lv_at hl 3 rfl) ?_
            refine lv_iload_n hx hb dX13_ahead_54 rfl (lv_at hl 4 rfl) ?_
            refine c_then S hK hP hS (rm_ok (Nat.le_of_ble_eq_true rfl)) hl.1 (a_) (w_) (n_) (b) (by omega) (by omega) hV (by omega) rfl rfl rfl (Nat.le_of_ble_eq_true rfl) dX13_ahead_55 (fun H locs hP hS => ?_)
            refine lv_goto (tgt := 67) hx hb dX13_ahead_58 (by decide) ?_
            exact kk_iretW S hr hlk hS (by simp only [o_ahead, c_5, c_36, hcl_w_, hw7, hcl_a_, hcl_n_, reduceIte, and_self, oF, oK, fx]; exact ⟨_, hP⟩) (by simp only [o_ahead, c_5, c_36, hcl_w_, hw7, hcl_a_, hcl_n_, reduceIte, and_self, oF, oK, fnd] <;> first | rfl | decide) dX13_ahead_67
set_option maxHeartbeats 4000000 in
set_option maxRecDepth 100000 in
theorem k_bursts (l : Launch) (t : MT) (r : Rw) (x : Nat → Rw) (a : Int32) (b : Nat) (hV : pV b r) (hb : b ≤ 99999) : Met l yX13_bursts (ws_ yX13_bursts cX13_bursts 4 (some .int)) (rmF 5) (va_Pc [.ref (t.2.1 0), .int a] (fun U => mK t U ∧ mW t r x U.heap)) (kW (some (.int ((o_bursts r a).1))) (fun H => ∃ f, mW t ((o_bursts r a).2.1) (va_up (fx x (o_bursts r a).2.2) 3 f) H) (mA t)) 0 0 (mA t) := by
  refine kk_start (by decide) (Nat.le_of_ble_eq_true rfl) ?_
  intro p e s m below meth c S hr hlk hin hB ls hl
  obtain ⟨hK, hP⟩ := hB
  have hx := S.1
  have hb := S.2.1
  have hown : s.vm.findClass RX13 = some m.cls := S.2.2.2.1
  have hts := S.2.2.2.2
  have hS : va_S (mA t) s.heap s.heap [] := va_S.rf
  have hl : lv_has ls 4 [(0, .ref (t.2.1 0)), (1, .int (a))] := hl
  have hn := hV.n.1
  have hn8 := hV.n.2
  refine lv_aload_n hx hb dX13_bursts_0 rfl (lv_at hl 0 rfl) ?_
  refine lv_iload_n hx hb dX13_bursts_1 rfl (lv_at hl 1 rfl) ?_
  refine c_isCask S hK hP (rm_ok (Nat.le_of_ble_eq_true rfl)) hl.1 (Nat.le_of_ble_eq_true rfl) dX13_bursts_2 ?_
  refine kb_ifne (tgt := 15) S dX13_bursts_5 (by decide) (fun c_5 => ?_) (fun c_5 => ?_)
  · skip
    obtain ⟨a_, ha_, rfl⟩ := nat_of_lt (n := pN r) (hn) (by omega) c_5
    have hcl_a_ := nI_clamp (n := a_) (by omega)
    refine lv_aload_n hx hb dX13_bursts_15 rfl (lv_at hl 0 rfl) ?_
    refine mg_s S hK hP dX13_bursts_16 ?_
    refine lv_aload_n hx hb dX13_bursts_19 rfl (lv_at hl 0 rfl) ?_
    refine mg_aside S hK hP dX13_bursts_20 ?_
    refine c_copyRow_1_4 S hK hP hS (rm_ok (Nat.le_of_ble_eq_true rfl)) hl.1 (Nat.le_of_ble_eq_true rfl) dX13_bursts_23 (fun H locs hP hS => ?_)
    refine lv_aload_n hx hb dX13_bursts_26 rfl (lv_at hl 0 rfl) ?_
    refine lv_iload_n hx hb dX13_bursts_27 rfl (lv_at hl 1 rfl) ?_
    refine lv_bipush (v := 6) hx hb dX13_bursts_28 (by decide) ?_
    refine c_its S hK hP (rm_ok (Nat.le_of_ble_eq_true rfl)) hl.1 (a_) (6) (by omega) (by omega) rfl rfl (Nat.le_of_ble_eq_true rfl) dX13_bursts_30 ?_
    refine lv_istore_n (lv' := [(2, .int (r (16 + 7 * a_ + 6))), (0, .ref (t.2.1 0)), (1, .int ((nI a_)))]) hx hb dX13_bursts_33 rfl hl (by decide) rfl (fun ls hl => ?_)
    refine lv_iconst (v := 0) hx hb dX13_bursts_34 (by decide) ?_
    refine lv_istore_n (lv' := [(3, .int (0)), (2, .int (r (16 + 7 * a_ + 6))), (0, .ref (t.2.1 0)), (1, .int ((nI a_)))]) hx hb dX13_bursts_35 rfl hl (by decide) rfl (fun ls hl => ?_)
    have lp_36 : ∀ (j k : Nat) (r1 : Rw) (H : Heap) (locs : List Loc) (ls : Array Slot), k + j = 101 → (p_until (fun q => decide (¬ q (16 + 7 * a_ + 6) = r (16 + 7 * a_ + 6))) j k r1 = p_bu r a_) → (pV (b + k) r1) → mW t (r1) ((va_up x 3 r)) H → va_S (mA t) s.heap H locs → lv_has ls 4 [(0, .ref (t.2.1 0)), (1, .int ((nI a_))), (2, .int (r (16 + 7 * a_ + 6))), (3, .int ((nI k)))] → W p l e (rmF 5) s m ([.ref (t.2.1 0), .int (nI a_)] : List Value).toArray below meth c H locs 0 0 (MQ below (kW (some (.int ((o_bursts r (nI a_)).1))) (fun H => ∃ f, mW t ((o_bursts r (nI a_)).2.1) (va_up (fx x (o_bursts r (nI a_)).2.2) 3 f) H) (mA t)) ([.ref (t.2.1 0), .int (nI a_)] : List Value).toArray s 0 0 (mA t)) (F0 m 36 ls []) := by
      intro j
      induction j with
      | zero =>
        intro k  r1 H locs ls hkj he hV1 hP hS hl
        refine lv_iload_n hx hb dX13_bursts_36 rfl (lv_at hl 3 rfl) ?_
        refine lv_bipush (v := 100) hx hb dX13_bursts_37 (by decide) ?_
        refine kb_gt_n (tgt := 63) (a := k) (b := 100) S rfl rfl (by omega) (by omega) dX13_bursts_39 (by decide) (fun c_39 => ?_) (fun c_39 => ?_)
        · skip
          have hres : p_bu r a_ = none := by rw [← he]; rfl
          refine lv_aload_n hx hb dX13_bursts_63 rfl (lv_at hl 0 rfl) ?_
          refine mg_aside S hK hP dX13_bursts_64 ?_
          refine lv_aload_n hx hb dX13_bursts_67 rfl (lv_at hl 0 rfl) ?_
          refine mg_s S hK hP dX13_bursts_68 ?_
          refine c_copyRow_4_1 S hK hP hS (rm_ok (Nat.le_of_ble_eq_true rfl)) hl.1 (Nat.le_of_ble_eq_true rfl) dX13_bursts_71 (fun H locs hP hS => ?_)
          refine lv_iload_n hx hb dX13_bursts_74 rfl (lv_at hl 3 rfl) ?_
          refine lv_bipush (v := 100) hx hb dX13_bursts_75 (by decide) ?_
          refine kb_gt_n (tgt := 84) (a := k) (b := 100) S rfl rfl (by omega) (by omega) dX13_bursts_77 (by decide) (fun c_77 => ?_) (fun c_77 => ?_)
          · skip
            refine lv_aload_n hx hb dX13_bursts_84 rfl (lv_at hl 0 rfl) ?_
            refine lv_ldc (v := (-1000004)) hx hb hown (hts _ q1462) dX13_bursts_85 ?_
            refine c_finds S hK hP hS (rm_ok (Nat.le_of_ble_eq_true rfl)) hl.1 (3) (by decide) (by decide) (Nat.le_of_ble_eq_true rfl) dX13_bursts_87 (fun H locs hP hS => ?_)
            exact kk_iretW S hr hlk hS (by simp only [o_bursts, c_5, hcl_a_, reduceIte, hres, oU, oF, oK, fx]; exact mW_a2 hP) (by simp only [o_bursts, c_5, hcl_a_, reduceIte, hres, oU, oF, oK, fnd] <;> first | rfl | decide) dX13_bursts_90
          · exact absurd c_77 (by omega)
        · exact absurd c_39 (by omega)
      | succ j ih =>
        intro k  r1 H locs ls hkj he hV1 hP hS hl
        have ih_36 := ih
        refine lv_iload_n hx hb dX13_bursts_36 rfl (lv_at hl 3 rfl) ?_
        refine lv_bipush (v := 100) hx hb dX13_bursts_37 (by decide) ?_
        refine kb_gt_n (tgt := 63) (a := k) (b := 100) S rfl rfl (by omega) (by omega) dX13_bursts_39 (by decide) (fun c_39 => ?_) (fun c_39 => ?_)
        · exact absurd c_39 (by omega)
        · skip
          refine lv_aload_n hx hb dX13_bursts_42 rfl (lv_at hl 0 rfl) ?_
          refine lv_iload_n hx hb dX13_bursts_43 rfl (lv_at hl 1 rfl) ?_
          refine lv_bipush (v := 6) hx hb dX13_bursts_44 (by decide) ?_
          refine c_its S hK hP (rm_ok (Nat.le_of_ble_eq_true rfl)) hl.1 (a_) (6) (by omega) (by omega) rfl rfl (Nat.le_of_ble_eq_true rfl) dX13_bursts_46 ?_
          refine lv_iload_n hx hb dX13_bursts_49 rfl (lv_at hl 2 rfl) ?_
          refine lv_icmp_ne (tgt := 63) hx hb dX13_bursts_50 (by decide) (fun c_50 => ?_) (fun c_50 => ?_)
          · skip
            have hres : p_bu r a_ = some k := by rw [← he, p_until, if_pos (by simp only [decide_eq_true_eq]; exact c_50)]
            refine lv_aload_n hx hb dX13_bursts_63 rfl (lv_at hl 0 rfl) ?_
            refine mg_aside S hK hP dX13_bursts_64 ?_
            refine lv_aload_n hx hb dX13_bursts_67 rfl (lv_at hl 0 rfl) ?_
            refine mg_s S hK hP dX13_bursts_68 ?_
            refine c_copyRow_4_1 S hK hP hS (rm_ok (Nat.le_of_ble_eq_true rfl)) hl.1 (Nat.le_of_ble_eq_true rfl) dX13_bursts_71 (fun H locs hP hS => ?_)
            refine lv_iload_n hx hb dX13_bursts_74 rfl (lv_at hl 3 rfl) ?_
            refine lv_bipush (v := 100) hx hb dX13_bursts_75 (by decide) ?_
            refine kb_gt_n (tgt := 84) (a := k) (b := 100) S rfl rfl (by omega) (by omega) dX13_bursts_77 (by decide) (fun c_77 => ?_) (fun c_77 => ?_)
            · exact absurd c_77 (by omega)
            · skip
              refine lv_iload_n hx hb dX13_bursts_80 rfl (lv_at hl 3 rfl) ?_
              refine lv_goto (tgt := 90) hx hb dX13_bursts_81 (by decide) ?_
              exact kk_iretW S hr hlk hS (by simp only [o_bursts, c_5, hcl_a_, reduceIte, hres, oU, oF, oK, fx]; exact ⟨_, hP⟩) (by simp only [o_bursts, c_5, hcl_a_, reduceIte, hres, oU, oF, oK, fnd] <;> first | rfl | decide) dX13_bursts_90
          · skip
            refine lv_aload_n hx hb dX13_bursts_53 rfl (lv_at hl 0 rfl) ?_
            refine c_day S hK hP hS (rm_ok (Nat.le_of_ble_eq_true rfl)) hl.1 ((b + k)) hV1 (by omega) (Nat.le_of_ble_eq_true rfl) dX13_bursts_54 (fun H locs hP hS => ?_)
            refine lv_iinc (v := (nI (k + 1))) (lv' := [(3, .int ((nI (k + 1)))), (0, .ref (t.2.1 0)), (1, .int ((nI a_))), (2, .int (r (16 + 7 * a_ + 6)))]) hx hb dX13_bursts_57 hl (k := 3) rfl (nn_1 rfl) (by decide) rfl (fun ls hl => ?_)
            refine lv_goto (tgt := 36) hx hb dX13_bursts_60 (by decide) ?_
            exact ih_36 ((k + 1)) _ _ _ ls (by omega) (by have h := he; rw [p_until, if_neg (by simp only [decide_eq_true_eq]; exact fun z => z c_50)] at h; exact h) (pV_day (b := b + k) hV1 (by omega)) hP hS (lv_sub hl [1, 2, 3, 0] rfl)
    exact lp_36 101 0 _ _ _ ls (by omega) (rfl) (hV) hP hS (lv_sub hl [2, 3, 1, 0] rfl)
  · skip
    refine lv_aload_n hx hb dX13_bursts_8 rfl (lv_at hl 0 rfl) ?_
    refine lv_ldc (v := (-1000001)) hx hb hown (hts _ q1305) dX13_bursts_9 ?_
    refine c_finds S hK hP hS (rm_ok (Nat.le_of_ble_eq_true rfl)) hl.1 (0) (by decide) (by decide) (Nat.le_of_ble_eq_true rfl) dX13_bursts_11 (fun H locs hP hS => ?_)
    exact kk_iretW S hr hlk hS (by simp only [o_bursts, c_5, reduceIte, and_self, oF, oK, fx]; exact mW_a hP) (by simp only [o_bursts, c_5, reduceIte, and_self, oF, oK, fnd] <;> first | rfl | decide) dX13_bursts_14
set_option maxHeartbeats 4000000 in
set_option maxRecDepth 100000 in
theorem k_when (l : Launch) (t : MT) (r : Rw) (x : Nat → Rw) (a : Int32) (v : Int32) (b : Nat) (hV : pV b r) (hb : b ≤ 99999) : Met l yX13_when (ws_ yX13_when cX13_when 4 (some .int)) (rmF 5) (va_Pc [.ref (t.2.1 0), .int a, .int v] (fun U => mK t U ∧ mW t r x U.heap)) (kW (some (.int ((o_when r a v).1))) (fun H => ∃ f, mW t ((o_when r a v).2.1) (va_up (fx x (o_when r a v).2.2) 3 f) H) (mA t)) 0 0 (mA t) := by
  refine kk_start (by decide) (Nat.le_of_ble_eq_true rfl) ?_
  intro p e s m below meth c S hr hlk hin hB ls hl
  obtain ⟨hK, hP⟩ := hB
  have hx := S.1
  have hb := S.2.1
  have hown : s.vm.findClass RX13 = some m.cls := S.2.2.2.1
  have hts := S.2.2.2.2
  have hS : va_S (mA t) s.heap s.heap [] := va_S.rf
  have hl : lv_has ls 4 [(0, .ref (t.2.1 0)), (1, .int (a)), (2, .int (v))] := hl
  have hn := hV.n.1
  have hn8 := hV.n.2
  refine lv_aload_n hx hb dX13_when_0 rfl (lv_at hl 0 rfl) ?_
  refine lv_iload_n hx hb dX13_when_1 rfl (lv_at hl 1 rfl) ?_
  refine c_isCask S hK hP (rm_ok (Nat.le_of_ble_eq_true rfl)) hl.1 (Nat.le_of_ble_eq_true rfl) dX13_when_2 ?_
  refine kb_ifeq (tgt := 20) S dX13_when_5 (by decide) (fun c_5 => ?_) (fun c_5 => ?_)
  · skip
    refine lv_aload_n hx hb dX13_when_20 rfl (lv_at hl 0 rfl) ?_
    refine lv_ldc (v := (-1000001)) hx hb hown (hts _ q1305) dX13_when_21 ?_
    refine c_finds S hK hP hS (rm_ok (Nat.le_of_ble_eq_true rfl)) hl.1 (0) (by decide) (by decide) (Nat.le_of_ble_eq_true rfl) dX13_when_23 (fun H locs hP hS => ?_)
    exact kk_iretW S hr hlk hS (by simp only [o_when, c_5, reduceIte, and_self, oF, oK, fx]; exact mW_a hP) (by simp only [o_when, c_5, reduceIte, and_self, oF, oK, fnd] <;> first | rfl | decide) dX13_when_26
  · skip
    refine lv_iload_n hx hb dX13_when_8 rfl (lv_at hl 2 rfl) ?_
    refine lv_i2l hx hb dX13_when_9 rfl ?_
    refine lv_lconst (v := (0 : Int32).toInt64) hx hb dX13_when_10 (by decide) ?_
    refine lv_ldc2 (v := ((2000) : Int32).toInt64) hx hb hown (hts _ q1467) dX13_when_11 ?_
    refine c_isIn S (rm_ok (Nat.le_of_ble_eq_true rfl)) hl.1 (Nat.le_of_ble_eq_true rfl) dX13_when_14 ?_
    refine kb_ifne (tgt := 27) S dX13_when_17 (by decide) (fun c_17 => ?_) (fun c_17 => ?_)
    · skip
      obtain ⟨a_, ha_, rfl⟩ := nat_of_lt (n := pN r) (hn) (by omega) c_5
      have hcl_a_ := nI_clamp (n := a_) (by omega)
      refine lv_aload_n hx hb dX13_when_27 rfl (lv_at hl 0 rfl) ?_
      refine mg_s S hK hP dX13_when_28 ?_
      refine lv_aload_n hx hb dX13_when_31 rfl (lv_at hl 0 rfl) ?_
      refine mg_aside S hK hP dX13_when_32 ?_
      refine c_copyRow_1_4 S hK hP hS (rm_ok (Nat.le_of_ble_eq_true rfl)) hl.1 (Nat.le_of_ble_eq_true rfl) dX13_when_35 (fun H locs hP hS => ?_)
      refine lv_iconst (v := 0) hx hb dX13_when_38 (by decide) ?_
      refine lv_istore_n (lv' := [(3, .int (0)), (0, .ref (t.2.1 0)), (1, .int ((nI a_))), (2, .int (v))]) hx hb dX13_when_39 rfl hl (by decide) rfl (fun ls hl => ?_)
      have lp_40 : ∀ (j k : Nat) (r1 : Rw) (H : Heap) (locs : List Loc) (ls : Array Slot), k + j = 101 → (p_until (fun q => decide (v ≤ p_loud q a_)) j k r1 = p_wh r a_ v) → (pV (b + k) r1) → mW t (r1) ((va_up x 3 r)) H → va_S (mA t) s.heap H locs → lv_has ls 4 [(0, .ref (t.2.1 0)), (1, .int ((nI a_))), (2, .int (v)), (3, .int ((nI k)))] → W p l e (rmF 5) s m ([.ref (t.2.1 0), .int (nI a_), .int v] : List Value).toArray below meth c H locs 0 0 (MQ below (kW (some (.int ((o_when r (nI a_) v).1))) (fun H => ∃ f, mW t ((o_when r (nI a_) v).2.1) (va_up (fx x (o_when r (nI a_) v).2.2) 3 f) H) (mA t)) ([.ref (t.2.1 0), .int (nI a_), .int v] : List Value).toArray s 0 0 (mA t)) (F0 m 40 ls []) := by
        intro j
        induction j with
        | zero =>
          intro k  r1 H locs ls hkj he hV1 hP hS hl
          refine lv_iload_n hx hb dX13_when_40 rfl (lv_at hl 3 rfl) ?_
          refine lv_bipush (v := 100) hx hb dX13_when_41 (by decide) ?_
          refine kb_gt_n (tgt := 65) (a := k) (b := 100) S rfl rfl (by omega) (by omega) dX13_when_43 (by decide) (fun c_43 => ?_) (fun c_43 => ?_)
          · skip
            have hres : p_wh r a_ v = none := by rw [← he]; rfl
            refine lv_aload_n hx hb dX13_when_65 rfl (lv_at hl 0 rfl) ?_
            refine mg_aside S hK hP dX13_when_66 ?_
            refine lv_aload_n hx hb dX13_when_69 rfl (lv_at hl 0 rfl) ?_
            refine mg_s S hK hP dX13_when_70 ?_
            refine c_copyRow_4_1 S hK hP hS (rm_ok (Nat.le_of_ble_eq_true rfl)) hl.1 (Nat.le_of_ble_eq_true rfl) dX13_when_73 (fun H locs hP hS => ?_)
            refine lv_iload_n hx hb dX13_when_76 rfl (lv_at hl 3 rfl) ?_
            refine lv_bipush (v := 100) hx hb dX13_when_77 (by decide) ?_
            refine kb_gt_n (tgt := 86) (a := k) (b := 100) S rfl rfl (by omega) (by omega) dX13_when_79 (by decide) (fun c_79 => ?_) (fun c_79 => ?_)
            · skip
              refine lv_aload_n hx hb dX13_when_86 rfl (lv_at hl 0 rfl) ?_
              refine lv_ldc (v := (-1000004)) hx hb hown (hts _ q1462) dX13_when_87 ?_
              refine c_finds S hK hP hS (rm_ok (Nat.le_of_ble_eq_true rfl)) hl.1 (3) (by decide) (by decide) (Nat.le_of_ble_eq_true rfl) dX13_when_89 (fun H locs hP hS => ?_)
              exact kk_iretW S hr hlk hS (by simp only [o_when, c_5, c_17, hcl_a_, reduceIte, hres, oU, oF, oK, fx]; exact mW_a2 hP) (by simp only [o_when, c_5, c_17, hcl_a_, reduceIte, hres, oU, oF, oK, fnd] <;> first | rfl | decide) dX13_when_92
            · exact absurd c_79 (by omega)
          · exact absurd c_43 (by omega)
        | succ j ih =>
          intro k  r1 H locs ls hkj he hV1 hP hS hl
          have ih_40 := ih
          refine lv_iload_n hx hb dX13_when_40 rfl (lv_at hl 3 rfl) ?_
          refine lv_bipush (v := 100) hx hb dX13_when_41 (by decide) ?_
          refine kb_gt_n (tgt := 65) (a := k) (b := 100) S rfl rfl (by omega) (by omega) dX13_when_43 (by decide) (fun c_43 => ?_) (fun c_43 => ?_)
          · exact absurd c_43 (by omega)
          · skip
            refine lv_aload_n hx hb dX13_when_46 rfl (lv_at hl 0 rfl) ?_
            refine lv_iload_n hx hb dX13_when_47 rfl (lv_at hl 1 rfl) ?_
            refine c_loud S hK hP (rm_ok (Nat.le_of_ble_eq_true rfl)) hl.1 (a_) ((b + k)) (by omega) hV1 rfl (Nat.le_of_ble_eq_true rfl) dX13_when_48 ?_
            refine lv_iload_n hx hb dX13_when_51 rfl (lv_at hl 2 rfl) ?_
            refine lv_icmp_ge (tgt := 65) hx hb dX13_when_52 (by decide) (fun c_52 => ?_) (fun c_52 => ?_)
            · skip
              have hres : p_wh r a_ v = some k := by rw [← he, p_until, if_pos (by simp only [decide_eq_true_eq]; exact c_52)]
              refine lv_aload_n hx hb dX13_when_65 rfl (lv_at hl 0 rfl) ?_
              refine mg_aside S hK hP dX13_when_66 ?_
              refine lv_aload_n hx hb dX13_when_69 rfl (lv_at hl 0 rfl) ?_
              refine mg_s S hK hP dX13_when_70 ?_
              refine c_copyRow_4_1 S hK hP hS (rm_ok (Nat.le_of_ble_eq_true rfl)) hl.1 (Nat.le_of_ble_eq_true rfl) dX13_when_73 (fun H locs hP hS => ?_)
              refine lv_iload_n hx hb dX13_when_76 rfl (lv_at hl 3 rfl) ?_
              refine lv_bipush (v := 100) hx hb dX13_when_77 (by decide) ?_
              refine kb_gt_n (tgt := 86) (a := k) (b := 100) S rfl rfl (by omega) (by omega) dX13_when_79 (by decide) (fun c_79 => ?_) (fun c_79 => ?_)
              · exact absurd c_79 (by omega)
              · skip
                refine lv_iload_n hx hb dX13_when_82 rfl (lv_at hl 3 rfl) ?_
                refine lv_goto (tgt := 92) hx hb dX13_when_83 (by decide) ?_
                exact kk_iretW S hr hlk hS (by simp only [o_when, c_5, c_17, hcl_a_, reduceIte, hres, oU, oF, oK, fx]; exact ⟨_, hP⟩) (by simp only [o_when, c_5, c_17, hcl_a_, reduceIte, hres, oU, oF, oK, fnd] <;> first | rfl | decide) dX13_when_92
            · skip
              refine lv_aload_n hx hb dX13_when_55 rfl (lv_at hl 0 rfl) ?_
              refine c_day S hK hP hS (rm_ok (Nat.le_of_ble_eq_true rfl)) hl.1 ((b + k)) hV1 (by omega) (Nat.le_of_ble_eq_true rfl) dX13_when_56 (fun H locs hP hS => ?_)
              refine lv_iinc (v := (nI (k + 1))) (lv' := [(3, .int ((nI (k + 1)))), (0, .ref (t.2.1 0)), (1, .int ((nI a_))), (2, .int (v))]) hx hb dX13_when_59 hl (k := 3) rfl (nn_1 rfl) (by decide) rfl (fun ls hl => ?_)
              refine lv_goto (tgt := 40) hx hb dX13_when_62 (by decide) ?_
              exact ih_40 ((k + 1)) _ _ _ ls (by omega) (by have h := he; rw [p_until, if_neg (by simp only [decide_eq_true_eq]; exact c_52)] at h; exact h) (pV_day (b := b + k) hV1 (by omega)) hP hS (lv_sub hl [1, 2, 3, 0] rfl)
      exact lp_40 101 0 _ _ _ ls (by omega) (rfl) (hV) hP hS (lv_sub hl [1, 2, 3, 0] rfl)
    · skip
      refine lv_aload_n hx hb dX13_when_20 rfl (lv_at hl 0 rfl) ?_
      refine lv_ldc (v := (-1000001)) hx hb hown (hts _ q1305) dX13_when_21 ?_
      refine c_finds S hK hP hS (rm_ok (Nat.le_of_ble_eq_true rfl)) hl.1 (0) (by decide) (by decide) (Nat.le_of_ble_eq_true rfl) dX13_when_23 (fun H locs hP hS => ?_)
      exact kk_iretW S hr hlk hS (by simp only [o_when, c_5, c_17, reduceIte, and_self, oF, oK, fx]; exact mW_a hP) (by simp only [o_when, c_5, c_17, reduceIte, and_self, oF, oK, fnd] <;> first | rfl | decide) dX13_when_26
set_option maxHeartbeats 4000000 in
set_option maxRecDepth 100000 in
theorem k_chain (l : Launch) (t : MT) (r : Rw) (x : Nat → Rw) (n : Int32) (b : Nat) (hV : pV b r) (hb : b ≤ 99999) : Met l yX13_chain (ws_ yX13_chain cX13_chain 4 (some .int)) (rmF 6) (va_Pc [.ref (t.2.1 0), .int n] (fun U => mK t U ∧ mW t r x U.heap)) (kW (some (.int ((o_chain r n).1))) (fun H => ∃ f, mW t ((o_chain r n).2.1) (va_up (fx x (o_chain r n).2.2) 3 f) H) (mA t)) 0 0 (mA t) := by
  refine kk_start (by decide) (Nat.le_of_ble_eq_true rfl) ?_
  intro p e s m below meth c S hr hlk hin hB ls hl
  obtain ⟨hK, hP⟩ := hB
  have hx := S.1
  have hb := S.2.1
  have hown : s.vm.findClass RX13 = some m.cls := S.2.2.2.1
  have hts := S.2.2.2.2
  have hS : va_S (mA t) s.heap s.heap [] := va_S.rf
  have hl : lv_has ls 4 [(0, .ref (t.2.1 0)), (1, .int (n))] := hl
  have hn := hV.n.1
  have hn8 := hV.n.2
  refine lv_iload_n hx hb dX13_chain_0 rfl (lv_at hl 1 rfl) ?_
  refine lv_i2l hx hb dX13_chain_1 rfl ?_
  refine lv_lconst (v := (0 : Int32).toInt64) hx hb dX13_chain_2 (by decide) ?_
  refine lv_ldc2 (v := ((60) : Int32).toInt64) hx hb hown (hts _ q1386) dX13_chain_3 ?_
  refine c_isIn S (rm_ok (Nat.le_of_ble_eq_true rfl)) hl.1 (Nat.le_of_ble_eq_true rfl) dX13_chain_6 ?_
  refine kb_ifne (tgt := 19) S dX13_chain_9 (by decide) (fun c_9 => ?_) (fun c_9 => ?_)
  · skip
    obtain ⟨n_, hn_, rfl⟩ := nat_of_le (n := 60) (rfl) (by omega) c_9
    have hcl_n_ := nI_clamp (n := n_) (by omega)
    refine lv_aload_n hx hb dX13_chain_19 rfl (lv_at hl 0 rfl) ?_
    refine mg_s S hK hP dX13_chain_20 ?_
    refine lv_aload_n hx hb dX13_chain_23 rfl (lv_at hl 0 rfl) ?_
    refine mg_aside S hK hP dX13_chain_24 ?_
    refine c_copyRow_1_4 S hK hP hS (rm_ok (Nat.le_of_ble_eq_true rfl)) hl.1 (Nat.le_of_ble_eq_true rfl) dX13_chain_27 (fun H locs hP hS => ?_)
    refine lv_aload_n hx hb dX13_chain_30 rfl (lv_at hl 0 rfl) ?_
    refine lv_iload_n hx hb dX13_chain_31 rfl (lv_at hl 1 rfl) ?_
    refine c_goes S hK hP hS (rm_ok (Nat.le_of_ble_eq_true rfl)) hl.1 (n_) (b) hV (by omega) rfl (Nat.le_of_ble_eq_true rfl) dX13_chain_32 (fun H locs hP hS => ?_)
    have hVg := pV_goes (b := 0) n_ b r hV (by omega)
    refine lv_iconst (v := 0) hx hb dX13_chain_35 (by decide) ?_
    refine lv_istore_n (lv' := [(2, .int (0)), (0, .ref (t.2.1 0)), (1, .int ((nI n_)))]) hx hb dX13_chain_36 rfl hl (by decide) rfl (fun ls hl => ?_)
    refine lv_iconst (v := 0) hx hb dX13_chain_37 (by decide) ?_
    refine lv_istore_n (lv' := [(3, .int (0)), (2, .int (0)), (0, .ref (t.2.1 0)), (1, .int ((nI n_)))]) hx hb dX13_chain_38 rfl hl (by decide) rfl (fun ls hl => ?_)
    have lp_39 : ∀ (j k : Nat) (a : Nat) (H : Heap) (locs : List Loc) (ls : Array Slot), k + j = pN r → (lp (fun k a => a ||| (if r (16 + 7 * k + 6) < p_goes n_ r (16 + 7 * k + 6) then 2 ^ k else 0)) j k a = p_chain r (p_goes n_ r)) → mW t ((p_goes n_ r)) ((va_up x 3 r)) H → va_S (mA t) s.heap H locs → lv_has ls 4 [(0, .ref (t.2.1 0)), (1, .int ((nI n_))), (2, .int ((nI a))), (3, .int ((nI k)))] → W p l e (rmF 6) s m ([.ref (t.2.1 0), .int (nI n_)] : List Value).toArray below meth c H locs 0 0 (MQ below (kW (some (.int ((o_chain r (nI n_)).1))) (fun H => ∃ f, mW t ((o_chain r (nI n_)).2.1) (va_up (fx x (o_chain r (nI n_)).2.2) 3 f) H) (mA t)) ([.ref (t.2.1 0), .int (nI n_)] : List Value).toArray s 0 0 (mA t)) (F0 m 39 ls []) := by
      intro j
      induction j with
      | zero =>
        intro k a H locs ls hkj he hP hS hl
        refine lv_iload_n hx hb dX13_chain_39 rfl (lv_at hl 3 rfl) ?_
        refine lv_aload_n hx hb dX13_chain_40 rfl (lv_at hl 0 rfl) ?_
        refine mg_s S hK hP dX13_chain_41 ?_
        refine lv_iconst (v := 0) hx hb dX13_chain_44 (by decide) ?_
        refine mk_lds S hK hP (0) (by omega) rfl dX13_chain_45 ?_
        refine kb_ge_n (tgt := 86) (a := k) (b := (pN r)) S rfl ((hVg.n.1).trans (congrArg nI (p_goes_n (b := 0) n_ b r hV (by omega)))) (by omega) (by omega) dX13_chain_46 (by decide) (fun c_46 => ?_) (fun c_46 => ?_)
        · skip
          refine lv_aload_n hx hb dX13_chain_86 rfl (lv_at hl 0 rfl) ?_
          refine mg_aside S hK hP dX13_chain_87 ?_
          refine lv_aload_n hx hb dX13_chain_90 rfl (lv_at hl 0 rfl) ?_
          refine mg_s S hK hP dX13_chain_91 ?_
          refine c_copyRow_4_1 S hK hP hS (rm_ok (Nat.le_of_ble_eq_true rfl)) hl.1 (Nat.le_of_ble_eq_true rfl) dX13_chain_94 (fun H locs hP hS => ?_)
          refine lv_iload_n hx hb dX13_chain_97 rfl (lv_at hl 2 rfl) ?_
          exact kk_iretW S hr hlk hS (by simp only [o_chain, c_9, c_46, hcl_n_, Nat.not_lt.mpr c_46, reduceIte, and_self, oF, oK, fx]; exact ⟨_, hP⟩) (by simp only [o_chain, c_9, hcl_n_, reduceIte, oK]; rw [← he]; rfl) dX13_chain_98
        · exact absurd c_46 (by omega)
      | succ j ih =>
        intro k a H locs ls hkj he hP hS hl
        have ih_39 := ih
        refine lv_iload_n hx hb dX13_chain_39 rfl (lv_at hl 3 rfl) ?_
        refine lv_aload_n hx hb dX13_chain_40 rfl (lv_at hl 0 rfl) ?_
        refine mg_s S hK hP dX13_chain_41 ?_
        refine lv_iconst (v := 0) hx hb dX13_chain_44 (by decide) ?_
        refine mk_lds S hK hP (0) (by omega) rfl dX13_chain_45 ?_
        refine kb_ge_n (tgt := 86) (a := k) (b := (pN r)) S rfl ((hVg.n.1).trans (congrArg nI (p_goes_n (b := 0) n_ b r hV (by omega)))) (by omega) (by omega) dX13_chain_46 (by decide) (fun c_46 => ?_) (fun c_46 => ?_)
        · exact absurd c_46 (by omega)
        · skip
          refine lv_iload_n hx hb dX13_chain_49 rfl (lv_at hl 2 rfl) ?_
          refine lv_aload_n hx hb dX13_chain_50 rfl (lv_at hl 0 rfl) ?_
          refine lv_iload_n hx hb dX13_chain_51 rfl (lv_at hl 3 rfl) ?_
          refine lv_bipush (v := 6) hx hb dX13_chain_52 (by decide) ?_
          refine c_its S hK hP (rm_ok (Nat.le_of_ble_eq_true rfl)) hl.1 (k) (6) (by omega) (by omega) rfl rfl (Nat.le_of_ble_eq_true rfl) dX13_chain_54 ?_
          refine lv_aload_n hx hb dX13_chain_57 rfl (lv_at hl 0 rfl) ?_
          refine mg_aside S hK hP dX13_chain_58 ?_
          refine lv_iload_n hx hb dX13_chain_61 rfl (lv_at hl 3 rfl) ?_
          refine lv_bipush (v := 6) hx hb dX13_chain_62 (by decide) ?_
          refine c_at S (rm_ok (Nat.le_of_ble_eq_true rfl)) hl.1 (k) (6) rfl rfl (Nat.le_of_ble_eq_true rfl) dX13_chain_64 ?_
          refine mk_ld3 S hK hP ((16 + 7 * k + 6)) (by omega) rfl dX13_chain_67 ?_
          refine lv_icmp_le (tgt := 77) hx hb dX13_chain_68 (by decide) (fun c_68 => ?_) (fun c_68 => ?_)
          · skip
            refine lv_iconst (v := 0) hx hb dX13_chain_77 (by decide) ?_
            refine lv_ior hx hb dX13_chain_78 ?_
            refine kb_nat (y := nI ((a ||| 0))) (nn_or rfl rfl) ?_
            refine lv_istore_n (lv' := [(2, .int ((nI (a ||| 0)))), (0, .ref (t.2.1 0)), (1, .int ((nI n_))), (3, .int ((nI k)))]) hx hb dX13_chain_79 rfl hl (by decide) rfl (fun ls hl => ?_)
            refine lv_iinc (v := (nI (k + 1))) (lv' := [(3, .int ((nI (k + 1)))), (2, .int ((nI (a ||| 0)))), (0, .ref (t.2.1 0)), (1, .int ((nI n_)))]) hx hb dX13_chain_80 hl (k := 3) rfl (nn_1 rfl) (by decide) rfl (fun ls hl => ?_)
            refine lv_goto (tgt := 39) hx hb dX13_chain_83 (by decide) ?_
            exact ih_39 ((k + 1)) ((a ||| 0)) _ _ ls (by omega) (by have h := he; simp only [lp] at h; rw [if_neg (show ¬ r (16 + 7 * k + 6) < p_goes n_ r (16 + 7 * k + 6) from Int32.not_lt.mpr c_68)] at h; exact h) hP hS (lv_sub hl [2, 3, 1, 0] rfl)
          · skip
            refine lv_iconst (v := 1) hx hb dX13_chain_71 (by decide) ?_
            refine lv_iload_n hx hb dX13_chain_72 rfl (lv_at hl 3 rfl) ?_
            refine lv_ishl hx hb dX13_chain_73 ?_
            refine lv_goto (tgt := 78) hx hb dX13_chain_74 (by decide) ?_
            refine lv_ior hx hb dX13_chain_78 ?_
            refine kb_nat (y := nI ((a ||| (2 ^ k)))) (nn_or rfl (nn_shl1 _ (by omega))) ?_
            refine lv_istore_n (lv' := [(2, .int ((nI (a ||| (2 ^ k))))), (0, .ref (t.2.1 0)), (1, .int ((nI n_))), (3, .int ((nI k)))]) hx hb dX13_chain_79 rfl hl (by decide) rfl (fun ls hl => ?_)
            refine lv_iinc (v := (nI (k + 1))) (lv' := [(3, .int ((nI (k + 1)))), (2, .int ((nI (a ||| (2 ^ k))))), (0, .ref (t.2.1 0)), (1, .int ((nI n_)))]) hx hb dX13_chain_80 hl (k := 3) rfl (nn_1 rfl) (by decide) rfl (fun ls hl => ?_)
            refine lv_goto (tgt := 39) hx hb dX13_chain_83 (by decide) ?_
            exact ih_39 ((k + 1)) ((a ||| (2 ^ k))) _ _ ls (by omega) (by have h := he; simp only [lp] at h; rw [if_pos (show r (16 + 7 * k + 6) < p_goes n_ r (16 + 7 * k + 6) from Int32.not_le.mp c_68)] at h; exact h) hP hS (lv_sub hl [2, 3, 1, 0] rfl)
    exact lp_39 (pN r) 0 (0) _ _ ls (by omega) (rfl) hP hS (lv_sub hl [2, 3, 1, 0] rfl)
  · skip
    refine lv_aload_n hx hb dX13_chain_12 rfl (lv_at hl 0 rfl) ?_
    refine lv_ldc (v := (-1000001)) hx hb hown (hts _ q1305) dX13_chain_13 ?_
    refine c_finds S hK hP hS (rm_ok (Nat.le_of_ble_eq_true rfl)) hl.1 (0) (by decide) (by decide) (Nat.le_of_ble_eq_true rfl) dX13_chain_15 (fun H locs hP hS => ?_)
    exact kk_iretW S hr hlk hS (by simp only [o_chain, c_9, reduceIte, and_self, oF, oK, fx]; exact mW_a hP) (by simp only [o_chain, c_9, reduceIte, and_self, oF, oK, fnd] <;> first | rfl | decide) dX13_chain_18
section MC
variable {p : Program} {l : Launch} {e : Env} {R : Room} {s : State} {m : MethodId} {args : Array Value} {below : List Frame} {meth : Method} {c : Code} {H H0 : Heap} {locs : List Loc} {cells slots : Nat} {Q : State → Prop}
variable {cc : ByteArray} {pc nL : Nat} {ls : Array Slot} {rest : List Value} {t : MT} {r : Rw} {x : Nat → Rw}




end MC

set_option maxHeartbeats 4000000 in
set_option maxRecDepth 100000 in
theorem k_text (l : Launch) (t : MT) (r : Rw) (x : Nat → Rw) (tp : Nat) (b : Nat) (htp : x 9 1 = nI tp) (h120 : tp ≤ 120) (hV : pV b r) : Met l yX13_text (ws_ yX13_text cX13_text 3 (some .int)) (rmF 5) (va_Pc [.ref (t.2.1 0)] (fun U => mK t U ∧ mW t r x U.heap)) (kW (some (.int ((o_mtext tp r x).1))) (fun H => ∃ x1, TXT x x1 ∧ mW t (o_mtext tp r x).2 x1 H) (mA t)) 0 0 (mA t) := by
  refine kk_start (by decide) (Nat.le_of_ble_eq_true rfl) ?_
  intro p e s m below meth c S hr hlk hin hB ls hl
  obtain ⟨hK, hP⟩ := hB
  have hx := S.1
  have hb := S.2.1
  have hown : s.vm.findClass RX13 = some m.cls := S.2.2.2.1
  have hts := S.2.2.2.2
  have hS : va_S (mA t) s.heap s.heap [] := va_S.rf
  have hl : lv_has ls 3 [(0, .ref (t.2.1 0))] := hl
  refine lv_aload_n hx hb dX13_text_0 rfl (lv_at hl 0 rfl) ?_
  refine mg_s S hK hP dX13_text_1 ?_
  refine lv_aload_n hx hb dX13_text_4 rfl (lv_at hl 0 rfl) ?_
  refine mg_before S hK hP dX13_text_5 ?_
  refine c_copyRow_1_3 S hK hP hS (rm_ok (Nat.le_of_ble_eq_true rfl)) hl.1 (Nat.le_of_ble_eq_true rfl) dX13_text_8 (fun H locs hP hS => ?_)
  refine lv_aload_n hx hb dX13_text_11 rfl (lv_at hl 0 rfl) ?_
  refine lv_iconst (v := 0) hx hb dX13_text_12 (by decide) ?_
  refine mp_to S hK hP hS dX13_text_13 (fun H locs hP hS => ?_)
  have hP : mW t r (m_x0 r x) H := hP
  refine lv_aload_n hx hb dX13_text_16 rfl (lv_at hl 0 rfl) ?_
  refine c_nextToken S hK hP hS (rm_ok (Nat.le_of_ble_eq_true rfl)) hl.1 tp 0 htp h120 rfl (Nat.zero_le _) (Nat.le_of_ble_eq_true rfl) dX13_text_17 (fun H locs hP hS => ?_)
  have hpi : PI tp (QX (m_x0 r x) tp 0) := PI_qx htp h120 (Nat.zero_le _)
  refine lv_iconst (v := 1) hx hb dX13_text_20 (by decide) ?_
  refine lv_istore_n (lv' := [(1, .int (1)), (0, .ref (t.2.1 0))]) hx hb dX13_text_21 rfl hl (by decide) rfl (fun ls hl => ?_)
  refine lv_aload_n hx hb dX13_text_22 rfl (lv_at hl 1 rfl) ?_
  refine c_itemHereG S hK hP hS (rm_ok (Nat.le_of_ble_eq_true rfl)) hl.1 (tp) (b) hpi hV (Nat.le_of_ble_eq_true rfl) dX13_text_23 (fun s_1 hs_1 H locs hP hS => ?_)
  refine lv_istore_n (lv' := [(2, .int _), (1, .int (1)), (0, .ref (t.2.1 0))]) hx hb dX13_text_26 rfl hl (by decide) rfl (fun ls hl => ?_)
  have cut_54 : ∀ (n : Nat) (g : Bool) (r1 : Rw) (x1 : Nat → Rw) (H : Heap) (locs : List Loc) (ls : Array Slot), (m_run tp r x = (n, g, r1, x1)) → (PI tp x1) → (KX (m_x0 r x) x1) → mW t (r1) (x1) H → va_S (mA t) s.heap H locs → lv_has ls 3 [(0, .ref (t.2.1 0)), (1, .int ((nI n))), (2, .int ((b2i (g = true))))] → W p l e (rmF 5) s m ([.ref (t.2.1 0)] : List Value).toArray below meth c H locs 0 0 (MQ below (kW (some (.int ((o_mtext tp r x).1))) (fun H => ∃ x1, TXT x x1 ∧ mW t (o_mtext tp r x).2 x1 H) (mA t)) ([.ref (t.2.1 0)] : List Value).toArray s 0 0 (mA t)) (F0 m 54 ls []) := by
    intro n g r1 x1 H locs ls hres hpi1 hkx hP hS hl
    refine lv_iload_n hx hb dX13_text_54 rfl (lv_at hl 2 rfl) ?_
    refine kb_ifeq (tgt := 76) S dX13_text_55 (by decide) (fun c_55 => ?_) (fun c_55 => ?_)
    · skip
      refine lv_iconst (v := 0) hx hb dX13_text_76 (by decide) ?_
      refine lv_istore_n (lv' := [(2, .int (0)), (0, .ref (t.2.1 0)), (1, .int ((nI n)))]) hx hb dX13_text_77 rfl hl (by decide) rfl (fun ls hl => ?_)
      refine lv_aload_n hx hb dX13_text_78 rfl (lv_at hl 1 rfl) ?_
      refine lv_iconst (v := 0) hx hb dX13_text_79 (by decide) ?_
      refine mp_taped S hK hP hS dX13_text_80 (fun H locs hP hS => ?_)
      refine lv_iload_n hx hb dX13_text_83 rfl (lv_at hl 0 rfl) ?_
      refine kb_ne0_n (tgt := 98) (a := 0) S rfl (by omega) dX13_text_84 (by decide) (fun c_84 => ?_) (fun c_84 => ?_)
      · exact absurd c_84 (by first | decide | omega)
      · skip
        refine lv_aload_n hx hb dX13_text_87 rfl (lv_at hl 1 rfl) ?_
        refine mg_before S hK hP dX13_text_88 ?_
        refine lv_aload_n hx hb dX13_text_91 rfl (lv_at hl 1 rfl) ?_
        refine mg_s S hK hP dX13_text_92 ?_
        refine c_copyRow_3_1 S hK hP hS (rm_ok (Nat.le_of_ble_eq_true rfl)) hl.1 (Nat.le_of_ble_eq_true rfl) dX13_text_95 (fun H locs hP hS => ?_)
        have hP : mW t (x1 2) (va_up x1 9 (upd (x1 9) 1 0)) H := hP
        rw [show x1 2 = r from hkx.1 2 (by decide)] at hP
        refine lv_iload_n hx hb dX13_text_98 rfl (lv_at hl 0 rfl) ?_
        refine kb_eq0_n (tgt := 106) (a := 0) S rfl (by omega) dX13_text_99 (by decide) (fun c_99 => ?_) (fun c_99 => ?_)
        · skip
          refine lv_iconst (v := (-1)) hx hb dX13_text_106 (by decide) ?_
          refine lv_aload_n hx hb dX13_text_107 rfl (lv_at hl 1 rfl) ?_
          refine mg_faultAt S hK hP dX13_text_108 ?_
          refine lv_isub hx hb dX13_text_111 ?_
          exact kk_iretW S hr hlk hS (by unfold o_mtext; rw [hres, if_neg (fun z => c_55 z.1)]; exact ⟨_, TXT_of hkx, hP⟩) (by unfold o_mtext; rw [hres, if_neg (fun z => c_55 z.1)]; unfold m_fault; rw [if_neg c_55]; rfl) dX13_text_112
        · exact absurd c_99 (by first | decide | omega)
    · skip
      refine lv_aload_n hx hb dX13_text_58 rfl (lv_at hl 0 rfl) ?_
      refine mg_token S hK hP dX13_text_59 ?_
      refine lv_if_eq (tgt := 72) hx hb dX13_text_62 (by decide) (fun c_62 => ?_) (fun c_62 => ?_)
      · skip
        refine lv_iconst (v := 1) hx hb dX13_text_72 (by decide) ?_
        refine lv_goto (tgt := 77) hx hb dX13_text_73 (by decide) ?_
        refine lv_istore_n (lv' := [(2, .int (1)), (0, .ref (t.2.1 0)), (1, .int ((nI n)))]) hx hb dX13_text_77 rfl hl (by decide) rfl (fun ls hl => ?_)
        refine lv_aload_n hx hb dX13_text_78 rfl (lv_at hl 1 rfl) ?_
        refine lv_iconst (v := 0) hx hb dX13_text_79 (by decide) ?_
        refine mp_taped S hK hP hS dX13_text_80 (fun H locs hP hS => ?_)
        refine lv_iload_n hx hb dX13_text_83 rfl (lv_at hl 0 rfl) ?_
        refine kb_ne0_n (tgt := 98) (a := 1) S rfl (by omega) dX13_text_84 (by decide) (fun c_84 => ?_) (fun c_84 => ?_)
        · skip
          refine lv_iload_n hx hb dX13_text_98 rfl (lv_at hl 0 rfl) ?_
          refine kb_eq0_n (tgt := 106) (a := 1) S rfl (by omega) dX13_text_99 (by decide) (fun c_99 => ?_) (fun c_99 => ?_)
          · exact absurd c_99 (by first | decide | omega)
          · skip
            refine lv_iload_n hx hb dX13_text_102 rfl (lv_at hl 2 rfl) ?_
            refine lv_goto (tgt := 112) hx hb dX13_text_103 (by decide) ?_
            exact kk_iretW S hr hlk hS (by unfold o_mtext; rw [hres, if_pos ⟨c_55, c_62⟩]; exact ⟨_, TXT_of hkx, hP⟩) (by unfold o_mtext; rw [hres, if_pos ⟨c_55, c_62⟩]) dX13_text_112
        · exact absurd c_84 (by first | decide | omega)
      · skip
        refine lv_aload_n hx hb dX13_text_65 rfl (lv_at hl 0 rfl) ?_
        refine c_fails S hK hP hS (rm_ok (Nat.le_of_ble_eq_true rfl)) hl.1 (Nat.le_of_ble_eq_true rfl) dX13_text_66 (fun H locs hP hS => ?_)
        refine kb_ifeq (tgt := 76) S dX13_text_69 (by decide) (fun c_69 => ?_) (fun c_69 => ?_)
        · skip
          refine lv_iconst (v := 0) hx hb dX13_text_76 (by decide) ?_
          refine lv_istore_n (lv' := [(2, .int (0)), (0, .ref (t.2.1 0)), (1, .int ((nI n)))]) hx hb dX13_text_77 rfl hl (by decide) rfl (fun ls hl => ?_)
          refine lv_aload_n hx hb dX13_text_78 rfl (lv_at hl 1 rfl) ?_
          refine lv_iconst (v := 0) hx hb dX13_text_79 (by decide) ?_
          refine mp_taped S hK hP hS dX13_text_80 (fun H locs hP hS => ?_)
          refine lv_iload_n hx hb dX13_text_83 rfl (lv_at hl 0 rfl) ?_
          refine kb_ne0_n (tgt := 98) (a := 0) S rfl (by omega) dX13_text_84 (by decide) (fun c_84 => ?_) (fun c_84 => ?_)
          · exact absurd c_84 (by first | decide | omega)
          · skip
            refine lv_aload_n hx hb dX13_text_87 rfl (lv_at hl 1 rfl) ?_
            refine mg_before S hK hP dX13_text_88 ?_
            refine lv_aload_n hx hb dX13_text_91 rfl (lv_at hl 1 rfl) ?_
            refine mg_s S hK hP dX13_text_92 ?_
            refine c_copyRow_3_1 S hK hP hS (rm_ok (Nat.le_of_ble_eq_true rfl)) hl.1 (Nat.le_of_ble_eq_true rfl) dX13_text_95 (fun H locs hP hS => ?_)
            have hP : mW t (x1 2) (va_up (failx x1) 9 (upd ((failx x1) 9) 1 0)) H := hP
            rw [show x1 2 = r from hkx.1 2 (by decide)] at hP
            refine lv_iload_n hx hb dX13_text_98 rfl (lv_at hl 0 rfl) ?_
            refine kb_eq0_n (tgt := 106) (a := 0) S rfl (by omega) dX13_text_99 (by decide) (fun c_99 => ?_) (fun c_99 => ?_)
            · skip
              refine lv_iconst (v := (-1)) hx hb dX13_text_106 (by decide) ?_
              refine lv_aload_n hx hb dX13_text_107 rfl (lv_at hl 1 rfl) ?_
              refine mg_faultAt S hK hP dX13_text_108 ?_
              refine lv_isub hx hb dX13_text_111 ?_
              exact kk_iretW S hr hlk hS (by unfold o_mtext; rw [hres, if_neg (fun z => c_62 z.2)]; exact ⟨_, TXT_of hkx.fail, hP⟩) (by unfold o_mtext; rw [hres, if_neg (fun z => c_62 z.2)]; unfold m_fault; rw [if_pos c_55]; rfl) dX13_text_112
            · exact absurd c_99 (by first | decide | omega)
        · exact c_69.elim
  have lp_27 : ∀ (j : Nat) (n : Nat) (g : Bool) (r1 : Rw) (x1 : Nat → Rw) (H : Heap) (locs : List Loc) (ls : Array Slot), (g = true → x1 9 4 = 3 → tp < toN x1 + j) → (m_tl tp j n (g, r1, x1) = m_run tp r x) → (PI tp x1) → (pV b r1) → (KX (m_x0 r x) x1) → mW t (r1) (x1) H → va_S (mA t) s.heap H locs → lv_has ls 3 [(0, .ref (t.2.1 0)), (1, .int ((nI n))), (2, .int ((b2i (g = true))))] → W p l e (rmF 5) s m ([.ref (t.2.1 0)] : List Value).toArray below meth c H locs 0 0 (MQ below (kW (some (.int ((o_mtext tp r x).1))) (fun H => ∃ x1, TXT x x1 ∧ mW t (o_mtext tp r x).2 x1 H) (mA t)) ([.ref (t.2.1 0)] : List Value).toArray s 0 0 (mA t)) (F0 m 27 ls []) := by
    intro j
    induction j with
    | zero =>
      intro n g r1 x1 H locs ls hkj he hpi1 hV1 hkx hP hS hl
      refine lv_iload_n hx hb dX13_text_27 rfl (lv_at hl 2 rfl) ?_
      refine kb_ifeq (tgt := 54) S dX13_text_28 (by decide) (fun c_28 => ?_) (fun c_28 => ?_)
      · skip
        exact cut_54 (n) g _ _ _ _ ls (he.symm) (hpi1) (hkx) hP hS (lv_sub hl [0, 1, 2] rfl)
      · skip
        refine lv_aload_n hx hb dX13_text_31 rfl (lv_at hl 0 rfl) ?_
        refine mg_token S hK hP dX13_text_32 ?_
        refine lv_iconst (v := 3) hx hb dX13_text_35 (by decide) ?_
        refine lv_icmp_ne (tgt := 54) hx hb dX13_text_36 (by decide) (fun c_36 => ?_) (fun c_36 => ?_)
        · skip
          exact cut_54 (n) g _ _ _ _ ls (he.symm) (hpi1) (hkx) hP hS (lv_sub hl [0, 1, 2] rfl)
        · exact absurd (hkj c_28 c_36) (by have := hpi1.to.2; omega)
    | succ j ih =>
      intro n g r1 x1 H locs ls hkj he hpi1 hV1 hkx hP hS hl
      have ih_27 := ih
      refine lv_iload_n hx hb dX13_text_27 rfl (lv_at hl 2 rfl) ?_
      refine kb_ifeq (tgt := 54) S dX13_text_28 (by decide) (fun c_28 => ?_) (fun c_28 => ?_)
      · skip
        exact cut_54 (n) g _ _ _ _ ls (by have h := he; simp only [m_tl] at h; rw [if_neg (fun z => c_28 z.1)] at h; exact h.symm) (hpi1) (hkx) hP hS (lv_sub hl [0, 1, 2] rfl)
      · skip
        refine lv_aload_n hx hb dX13_text_31 rfl (lv_at hl 0 rfl) ?_
        refine mg_token S hK hP dX13_text_32 ?_
        refine lv_iconst (v := 3) hx hb dX13_text_35 (by decide) ?_
        refine lv_icmp_ne (tgt := 54) hx hb dX13_text_36 (by decide) (fun c_36 => ?_) (fun c_36 => ?_)
        · skip
          exact cut_54 (n) g _ _ _ _ ls (by have h := he; simp only [m_tl] at h; rw [if_neg (fun z => c_36 z.2)] at h; exact h.symm) (hpi1) (hkx) hP hS (lv_sub hl [0, 1, 2] rfl)
        · skip
          refine lv_aload_n hx hb dX13_text_39 rfl (lv_at hl 0 rfl) ?_
          refine c_nx S hK hP hS (rm_ok (Nat.le_of_ble_eq_true rfl)) hl.1 hpi1 (Nat.le_of_ble_eq_true rfl) dX13_text_40 (fun H locs hP hS => ?_)
          refine lv_aload_n hx hb dX13_text_43 rfl (lv_at hl 0 rfl) ?_
          refine c_itemHereG S hK hP hS (rm_ok (Nat.le_of_ble_eq_true rfl)) hl.1 (tp) (b) (hpi1).next hV1 (Nat.le_of_ble_eq_true rfl) dX13_text_44 (fun s_2 hs_2 H locs hP hS => ?_)
          refine lv_istore_n (lv' := [(2, .int _), (0, .ref (t.2.1 0)), (1, .int ((nI n)))]) hx hb dX13_text_47 rfl hl (by decide) rfl (fun ls hl => ?_)
          refine lv_iinc (v := (nI (n + 1))) (lv' := [(1, .int ((nI (n + 1)))), (2, .int _), (0, .ref (t.2.1 0))]) hx hb dX13_text_48 hl (k := 2) rfl (nn_1 rfl) (by decide) rfl (fun ls hl => ?_)
          refine lv_goto (tgt := 27) hx hb dX13_text_51 (by decide) ?_
          exact ih_27  ((n + 1)) s_2.1 _ _ _ _ ls (fun q1 q3 => by have h4 := item_3 (r := r1) hpi1 (by rw [hs_2]; exact q1) (by rw [hs_2]; exact q3); rw [hs_2] at h4; have := hkj c_28 c_36; omega) (by have h := he; simp only [m_tl] at h; rw [if_pos ⟨c_28, c_36⟩, hs_2] at h; exact h) (hs_2 ▸ PI_item hpi1.next) (hs_2 ▸ pV_item hV1) (hs_2 ▸ KX_item hkx.next) hP hS (lv_sub hl [2, 0, 1] rfl)
  exact lp_27 121 (1) s_1.1 _ _ _ _ ls (fun _ _ => by omega) (by unfold m_run; exact congrArg (m_tl tp 121 1) hs_1.symm) (hs_1 ▸ PI_item hpi) (hs_1 ▸ pV_item hV) (hs_1 ▸ KX_item KX.qx) hP hS (lv_sub hl [2, 1, 0] rfl)

set_option maxHeartbeats 4000000 in
set_option maxRecDepth 100000 in
theorem k0_sheet (l : Launch) (t : CT) (r : Rw) (x : Nat → Rw) (y : Nat → Rw) (v : Int32) (w : Int32) (n : Int32) : Met l yX0_sheet (ws_ yX0_sheet cX0_sheet 4 (some .int)) (rmS 2) (va_Pc [.ref (t.2.1 0), .int v, .int w, .int n] (fun U => cK t U ∧ cX t r x U.heap ∧ cSh t y U.heap)) (kW (some (.int ((o_sheet r v w n).1))) (fun H => ∃ t' x1, cTo t t' ∧ cJ (fx x (o_sheet r v w n).2.2) x1 ∧ cX t' (o_sheet r v w n).2.1 x1 H ∧ cSh t' (shy y v w n (o_sheet r v w n).2.2) H) (cA t)) 1 40 (cA t) := by
  refine kk_start (by decide) (Nat.le_of_ble_eq_true rfl) ?_
  intro p e s m below meth c S hr hlk hin hB ls hl
  obtain ⟨hK, hP⟩ := hB
  have hx := S.1
  have hb := S.2.1
  have hown : s.vm.findClass RX0 = some m.cls := S.2.2.2.1
  have hts := S.2.2.2.2
  have hS : va_S (cA t) s.heap s.heap [] := va_S.rf
  have hl : lv_has ls 4 [(0, .ref (t.2.1 0)), (1, .int (v)), (2, .int (w)), (3, .int (n))] := hl
  obtain ⟨hP, hQ⟩ := hP
  refine lv_iload_n hx hb dX0_sheet_0 rfl (lv_at hl 1 rfl) ?_
  refine cc_isSheet S (rmS_ok (Nat.le_of_ble_eq_true rfl)) hl.1 (Nat.le_of_ble_eq_true rfl) dX0_sheet_1 ?_
  refine kb_ifeq (tgt := 29) S dX0_sheet_4 (by decide) (fun c_4 => ?_) (fun c_4 => ?_)
  · skip
    refine lv_aload_n hx hb dX0_sheet_29 rfl (lv_at hl 0 rfl) ?_
    refine lv_iconst (v := 0) hx hb dX0_sheet_30 (by decide) ?_
    refine cc_finding S hK hP hS (rmS_ok (Nat.le_of_ble_eq_true rfl)) hl.1 (0) (by omega) rfl (Nat.le_of_ble_eq_true rfl) dX0_sheet_31 (fun H locs hP hS => ?_)
    have ho : o_sheet r v w n = (fnd 0, r, some 0) := by unfold o_sheet; rw [if_neg c_4]; rfl
    exact W.mono (fun _ h => MQ.up (c := 0) (n := 0) (by omega) (by omega) h) (kk_iretW S hr hlk hS (by rw [ho]; exact ⟨_, _, cTo.rf t, ((cJ.rf _)).fnd 0, hP, hQ.keep hS⟩) (by rw [ho]) dX0_sheet_34)
  · skip
    obtain ⟨v_, hv_, rfl⟩ := nat_of_lt (n := 4) (rfl) (by omega) c_4
    have hcl_v_ := nI_clamp (n := v_) (by omega)
    refine lv_iload_n hx hb dX0_sheet_7 rfl (lv_at hl 2 rfl) ?_
    refine lv_if_eq (tgt := 35) hx hb dX0_sheet_8 (by decide) (fun c_8 => ?_) (fun c_8 => ?_)
    · skip
      subst c_8
      refine lv_iload_n hx hb dX0_sheet_35 rfl (lv_at hl 3 rfl) ?_
      refine lv_if_lt (tgt := 45) hx hb dX0_sheet_36 (by decide) (fun c_36 => ?_) (fun c_36 => ?_)
      · skip
        refine lv_aload_n hx hb dX0_sheet_45 rfl (lv_at hl 0 rfl) ?_
        refine lv_iload_n hx hb dX0_sheet_46 rfl (lv_at hl 3 rfl) ?_
        refine lv_if_ge (tgt := 55) hx hb dX0_sheet_47 (by decide) (fun c_47 => ?_) (fun c_47 => ?_)
        · exact (show False by grind).elim
        · skip
          refine lv_bipush (v := 6) hx hb dX0_sheet_50 (by decide) ?_
          refine lv_goto (tgt := 56) hx hb dX0_sheet_52 (by decide) ?_
          refine cc_finding S hK hP hS (rmS_ok (Nat.le_of_ble_eq_true rfl)) hl.1 (6) (by omega) rfl (Nat.le_of_ble_eq_true rfl) dX0_sheet_56 (fun H locs hP hS => ?_)
          have ho : o_sheet r (nI v_) 0 n = (fnd 6, r, some 6) := by unfold o_sheet; rw [if_pos c_4, if_pos (by decide), if_neg (Int32.not_le.mpr c_36)]; rfl
          exact W.mono (fun _ h => MQ.up (c := 0) (n := 0) (by omega) (by omega) h) (kk_iretW S hr hlk hS (by rw [ho]; exact ⟨_, _, cTo.rf t, ((cJ.rf _)).fnd 6, hP, hQ.keep hS⟩) (by rw [ho]) dX0_sheet_59)
      · skip
        refine lv_iload_n hx hb dX0_sheet_39 rfl (lv_at hl 3 rfl) ?_
        refine lv_bipush (v := 40) hx hb dX0_sheet_40 (by decide) ?_
        refine lv_icmp_le (tgt := 60) hx hb dX0_sheet_42 (by decide) (fun c_42 => ?_) (fun c_42 => ?_)
        · skip
          obtain ⟨n_, hn_, rfl⟩ := nat_of_le (n := 40) (rfl) (by omega) ⟨Int32.not_lt.mp c_36, c_42⟩
          have hcl_n_ := nI_clamp (n := n_) (by omega)
          refine lv_aload_n hx hb dX0_sheet_60 rfl (lv_at hl 0 rfl) ?_
          refine cg_sheets S hK hP dX0_sheet_61 ?_
          refine lv_iload_n hx hb dX0_sheet_64 rfl (lv_at hl 1 rfl) ?_
          refine ca_sheets S hK hP (v_) (by omega) rfl dX0_sheet_65 ?_
          refine lv_iload_n hx hb dX0_sheet_66 rfl (lv_at hl 2 rfl) ?_
          refine kb_ne0_n (tgt := 74) (a := 0) S rfl (by omega) dX0_sheet_67 (by decide) (fun c_67 => ?_) (fun c_67 => ?_)
          · exact absurd c_67 (by first | decide | omega)
          · skip
            refine lv_null hx hb dX0_sheet_70 ?_
            refine lv_goto (tgt := 101) hx hb dX0_sheet_71 (by decide) ?_
            refine ctp_sheets S hK hP hS (fun _ h => h) v_ hv_ none dX0_sheet_101 (fun H locs hP o2 hS => ?_)
            have hQ2 := sh_made0 (n := nI n_) hQ hv_ o2
            refine lv_iload_n hx hb dX0_sheet_104 rfl (lv_at hl 2 rfl) ?_
            refine kb_ne0_n (tgt := 112) (a := 0) S rfl (by omega) dX0_sheet_105 (by decide) (fun c_105 => ?_) (fun c_105 => ?_)
            · exact absurd c_105 (by first | decide | omega)
            · skip
              refine lv_iconst (v := 0) hx hb dX0_sheet_108 (by decide) ?_
              refine lv_goto (tgt := 113) hx hb dX0_sheet_109 (by decide) ?_
              have ho : o_sheet r (nI v_) 0 (nI n_) = (0, r, none) := by unfold o_sheet; rw [if_pos c_4, if_pos (by decide), if_pos (nI_pos' (by omega)), if_pos c_42]; rfl
              exact W.mono (fun _ h => MQ.up (c := 0) (n := 0) (by omega) (by omega) h) (kk_iretW S hr hlk hS (by rw [ho]; exact ⟨_, _, cTo.S t v_ _, cJ.rf _, hP, hQ2⟩) (by rw [ho]) dX0_sheet_113)
        · skip
          refine lv_aload_n hx hb dX0_sheet_45 rfl (lv_at hl 0 rfl) ?_
          refine lv_iload_n hx hb dX0_sheet_46 rfl (lv_at hl 3 rfl) ?_
          refine lv_if_ge (tgt := 55) hx hb dX0_sheet_47 (by decide) (fun c_47 => ?_) (fun c_47 => ?_)
          · skip
            refine lv_iconst (v := 0) hx hb dX0_sheet_55 (by decide) ?_
            refine cc_finding S hK hP hS (rmS_ok (Nat.le_of_ble_eq_true rfl)) hl.1 (0) (by omega) rfl (Nat.le_of_ble_eq_true rfl) dX0_sheet_56 (fun H locs hP hS => ?_)
            have ho : o_sheet r (nI v_) 0 n = (fnd 0, r, some 0) := by unfold o_sheet; rw [if_pos c_4, if_pos (by decide), if_pos (Int32.not_lt.mp c_36), if_neg c_42]; rfl
            exact W.mono (fun _ h => MQ.up (c := 0) (n := 0) (by omega) (by omega) h) (kk_iretW S hr hlk hS (by rw [ho]; exact ⟨_, _, cTo.rf t, ((cJ.rf _)).fnd 0, hP, hQ.keep hS⟩) (by rw [ho]) dX0_sheet_59)
          · exact (show False by grind).elim
    · skip
      refine lv_iload_n hx hb dX0_sheet_11 rfl (lv_at hl 2 rfl) ?_
      refine lv_bipush (v := 8) hx hb dX0_sheet_12 (by decide) ?_
      refine lv_icmp_eq (tgt := 35) hx hb dX0_sheet_14 (by decide) (fun c_14 => ?_) (fun c_14 => ?_)
      · skip
        subst c_14
        refine lv_iload_n hx hb dX0_sheet_35 rfl (lv_at hl 3 rfl) ?_
        refine lv_if_lt (tgt := 45) hx hb dX0_sheet_36 (by decide) (fun c_36 => ?_) (fun c_36 => ?_)
        · skip
          refine lv_aload_n hx hb dX0_sheet_45 rfl (lv_at hl 0 rfl) ?_
          refine lv_iload_n hx hb dX0_sheet_46 rfl (lv_at hl 3 rfl) ?_
          refine lv_if_ge (tgt := 55) hx hb dX0_sheet_47 (by decide) (fun c_47 => ?_) (fun c_47 => ?_)
          · exact (show False by grind).elim
          · skip
            refine lv_bipush (v := 6) hx hb dX0_sheet_50 (by decide) ?_
            refine lv_goto (tgt := 56) hx hb dX0_sheet_52 (by decide) ?_
            refine cc_finding S hK hP hS (rmS_ok (Nat.le_of_ble_eq_true rfl)) hl.1 (6) (by omega) rfl (Nat.le_of_ble_eq_true rfl) dX0_sheet_56 (fun H locs hP hS => ?_)
            have ho : o_sheet r (nI v_) 8 n = (fnd 6, r, some 6) := by unfold o_sheet; rw [if_pos c_4, if_pos (by decide), if_neg (Int32.not_le.mpr c_36)]; rfl
            exact W.mono (fun _ h => MQ.up (c := 0) (n := 0) (by omega) (by omega) h) (kk_iretW S hr hlk hS (by rw [ho]; exact ⟨_, _, cTo.rf t, ((cJ.rf _)).fnd 6, hP, hQ.keep hS⟩) (by rw [ho]) dX0_sheet_59)
        · skip
          refine lv_iload_n hx hb dX0_sheet_39 rfl (lv_at hl 3 rfl) ?_
          refine lv_bipush (v := 40) hx hb dX0_sheet_40 (by decide) ?_
          refine lv_icmp_le (tgt := 60) hx hb dX0_sheet_42 (by decide) (fun c_42 => ?_) (fun c_42 => ?_)
          · skip
            obtain ⟨n_, hn_, rfl⟩ := nat_of_le (n := 40) (rfl) (by omega) ⟨Int32.not_lt.mp c_36, c_42⟩
            have hcl_n_ := nI_clamp (n := n_) (by omega)
            refine lv_aload_n hx hb dX0_sheet_60 rfl (lv_at hl 0 rfl) ?_
            refine cg_sheets S hK hP dX0_sheet_61 ?_
            refine lv_iload_n hx hb dX0_sheet_64 rfl (lv_at hl 1 rfl) ?_
            refine ca_sheets S hK hP (v_) (by omega) rfl dX0_sheet_65 ?_
            refine lv_iload_n hx hb dX0_sheet_66 rfl (lv_at hl 2 rfl) ?_
            refine kb_ne0_n (tgt := 74) (a := 8) S rfl (by omega) dX0_sheet_67 (by decide) (fun c_67 => ?_) (fun c_67 => ?_)
            · skip
              refine lv_iload_n hx hb dX0_sheet_74 rfl (lv_at hl 2 rfl) ?_
              refine lv_bipush (v := 8) hx hb dX0_sheet_75 (by decide) ?_
              refine kb_ne_n (tgt := 86) (a := 8) (b := 8) S rfl rfl (by omega) (by omega) dX0_sheet_77 (by decide) (fun c_77 => ?_) (fun c_77 => ?_)
              · exact absurd c_77 (by decide)
              · skip
                refine lv_iload_n hx hb dX0_sheet_80 rfl (lv_at hl 3 rfl) ?_
                have hP0 := hP
                refine sh_new8 S hK hP hS (n := n_) (by omega) (Nat.le_of_ble_eq_true rfl) (by show 0 + n_ ≤ 40; omega) dX0_sheet_81 (fun H e1 o1 hP hS => ?_)
                refine lv_goto (tgt := 101) hx hb dX0_sheet_83 (by decide) ?_
                refine ctp_sheets S hK hP hS (fun _ h => h) v_ hv_ (some s.heap.size) dX0_sheet_101 (fun H locs hP o2 hS => ?_)
                have hQ2 := sh_made8 hP0 hQ hv_ (by omega) e1 o1 o2
                refine lv_iload_n hx hb dX0_sheet_104 rfl (lv_at hl 2 rfl) ?_
                refine kb_ne0_n (tgt := 112) (a := 8) S rfl (by omega) dX0_sheet_105 (by decide) (fun c_105 => ?_) (fun c_105 => ?_)
                · skip
                  refine lv_iload_n hx hb dX0_sheet_112 rfl (lv_at hl 3 rfl) ?_
                  have ho : o_sheet r (nI v_) 8 (nI n_) = (nI n_, r, none) := by unfold o_sheet; rw [if_pos c_4, if_pos (by decide), if_pos (nI_pos' (by omega)), if_pos c_42]; rfl
                  exact W.mono (fun _ h => MQ.up (c := (0 + 1)) (n := (0 + n_)) (by omega) (by omega) h) (kk_iretW S hr hlk hS (by rw [ho]; exact ⟨_, _, cTo.S t v_ _, cJ.rf _, hP, hQ2⟩) (by rw [ho]) dX0_sheet_113)
                · exact absurd c_105 (by first | decide | omega)
            · exact absurd c_67 (by first | decide | omega)
          · skip
            refine lv_aload_n hx hb dX0_sheet_45 rfl (lv_at hl 0 rfl) ?_
            refine lv_iload_n hx hb dX0_sheet_46 rfl (lv_at hl 3 rfl) ?_
            refine lv_if_ge (tgt := 55) hx hb dX0_sheet_47 (by decide) (fun c_47 => ?_) (fun c_47 => ?_)
            · skip
              refine lv_iconst (v := 0) hx hb dX0_sheet_55 (by decide) ?_
              refine cc_finding S hK hP hS (rmS_ok (Nat.le_of_ble_eq_true rfl)) hl.1 (0) (by omega) rfl (Nat.le_of_ble_eq_true rfl) dX0_sheet_56 (fun H locs hP hS => ?_)
              have ho : o_sheet r (nI v_) 8 n = (fnd 0, r, some 0) := by unfold o_sheet; rw [if_pos c_4, if_pos (by decide), if_pos (Int32.not_lt.mp c_36), if_neg c_42]; rfl
              exact W.mono (fun _ h => MQ.up (c := 0) (n := 0) (by omega) (by omega) h) (kk_iretW S hr hlk hS (by rw [ho]; exact ⟨_, _, cTo.rf t, ((cJ.rf _)).fnd 0, hP, hQ.keep hS⟩) (by rw [ho]) dX0_sheet_59)
            · exact (show False by grind).elim
      · skip
        refine lv_iload_n hx hb dX0_sheet_17 rfl (lv_at hl 2 rfl) ?_
        refine lv_bipush (v := 16) hx hb dX0_sheet_18 (by decide) ?_
        refine lv_icmp_eq (tgt := 35) hx hb dX0_sheet_20 (by decide) (fun c_20 => ?_) (fun c_20 => ?_)
        · skip
          subst c_20
          refine lv_iload_n hx hb dX0_sheet_35 rfl (lv_at hl 3 rfl) ?_
          refine lv_if_lt (tgt := 45) hx hb dX0_sheet_36 (by decide) (fun c_36 => ?_) (fun c_36 => ?_)
          · skip
            refine lv_aload_n hx hb dX0_sheet_45 rfl (lv_at hl 0 rfl) ?_
            refine lv_iload_n hx hb dX0_sheet_46 rfl (lv_at hl 3 rfl) ?_
            refine lv_if_ge (tgt := 55) hx hb dX0_sheet_47 (by decide) (fun c_47 => ?_) (fun c_47 => ?_)
            · exact (show False by grind).elim
            · skip
              refine lv_bipush (v := 6) hx hb dX0_sheet_50 (by decide) ?_
              refine lv_goto (tgt := 56) hx hb dX0_sheet_52 (by decide) ?_
              refine cc_finding S hK hP hS (rmS_ok (Nat.le_of_ble_eq_true rfl)) hl.1 (6) (by omega) rfl (Nat.le_of_ble_eq_true rfl) dX0_sheet_56 (fun H locs hP hS => ?_)
              have ho : o_sheet r (nI v_) 16 n = (fnd 6, r, some 6) := by unfold o_sheet; rw [if_pos c_4, if_pos (by decide), if_neg (Int32.not_le.mpr c_36)]; rfl
              exact W.mono (fun _ h => MQ.up (c := 0) (n := 0) (by omega) (by omega) h) (kk_iretW S hr hlk hS (by rw [ho]; exact ⟨_, _, cTo.rf t, ((cJ.rf _)).fnd 6, hP, hQ.keep hS⟩) (by rw [ho]) dX0_sheet_59)
          · skip
            refine lv_iload_n hx hb dX0_sheet_39 rfl (lv_at hl 3 rfl) ?_
            refine lv_bipush (v := 40) hx hb dX0_sheet_40 (by decide) ?_
            refine lv_icmp_le (tgt := 60) hx hb dX0_sheet_42 (by decide) (fun c_42 => ?_) (fun c_42 => ?_)
            · skip
              obtain ⟨n_, hn_, rfl⟩ := nat_of_le (n := 40) (rfl) (by omega) ⟨Int32.not_lt.mp c_36, c_42⟩
              have hcl_n_ := nI_clamp (n := n_) (by omega)
              refine lv_aload_n hx hb dX0_sheet_60 rfl (lv_at hl 0 rfl) ?_
              refine cg_sheets S hK hP dX0_sheet_61 ?_
              refine lv_iload_n hx hb dX0_sheet_64 rfl (lv_at hl 1 rfl) ?_
              refine ca_sheets S hK hP (v_) (by omega) rfl dX0_sheet_65 ?_
              refine lv_iload_n hx hb dX0_sheet_66 rfl (lv_at hl 2 rfl) ?_
              refine kb_ne0_n (tgt := 74) (a := 16) S rfl (by omega) dX0_sheet_67 (by decide) (fun c_67 => ?_) (fun c_67 => ?_)
              · skip
                refine lv_iload_n hx hb dX0_sheet_74 rfl (lv_at hl 2 rfl) ?_
                refine lv_bipush (v := 8) hx hb dX0_sheet_75 (by decide) ?_
                refine kb_ne_n (tgt := 86) (a := 16) (b := 8) S rfl rfl (by omega) (by omega) dX0_sheet_77 (by decide) (fun c_77 => ?_) (fun c_77 => ?_)
                · skip
                  refine lv_iload_n hx hb dX0_sheet_86 rfl (lv_at hl 2 rfl) ?_
                  refine lv_bipush (v := 16) hx hb dX0_sheet_87 (by decide) ?_
                  refine kb_ne_n (tgt := 98) (a := 16) (b := 16) S rfl rfl (by omega) (by omega) dX0_sheet_89 (by decide) (fun c_89 => ?_) (fun c_89 => ?_)
                  · exact absurd c_89 (by decide)
                  · skip
                    refine lv_iload_n hx hb dX0_sheet_92 rfl (lv_at hl 3 rfl) ?_
                    have hP0 := hP
                    refine sh_new16 S hK hP hS (n := n_) (by omega) (Nat.le_of_ble_eq_true rfl) (by show 0 + n_ ≤ 40; omega) dX0_sheet_93 (fun H e1 o1 hP hS => ?_)
                    refine lv_goto (tgt := 101) hx hb dX0_sheet_95 (by decide) ?_
                    refine ctp_sheets S hK hP hS (fun _ h => h) v_ hv_ (some s.heap.size) dX0_sheet_101 (fun H locs hP o2 hS => ?_)
                    have hQ2 := sh_made16 hP0 hQ hv_ (by omega) e1 o1 o2
                    refine lv_iload_n hx hb dX0_sheet_104 rfl (lv_at hl 2 rfl) ?_
                    refine kb_ne0_n (tgt := 112) (a := 16) S rfl (by omega) dX0_sheet_105 (by decide) (fun c_105 => ?_) (fun c_105 => ?_)
                    · skip
                      refine lv_iload_n hx hb dX0_sheet_112 rfl (lv_at hl 3 rfl) ?_
                      have ho : o_sheet r (nI v_) 16 (nI n_) = (nI n_, r, none) := by unfold o_sheet; rw [if_pos c_4, if_pos (by decide), if_pos (nI_pos' (by omega)), if_pos c_42]; rfl
                      exact W.mono (fun _ h => MQ.up (c := (0 + 1)) (n := (0 + n_)) (by omega) (by omega) h) (kk_iretW S hr hlk hS (by rw [ho]; exact ⟨_, _, cTo.S t v_ _, cJ.rf _, hP, hQ2⟩) (by rw [ho]) dX0_sheet_113)
                    · exact absurd c_105 (by first | decide | omega)
                · exact absurd c_77 (by decide)
              · exact absurd c_67 (by first | decide | omega)
            · skip
              refine lv_aload_n hx hb dX0_sheet_45 rfl (lv_at hl 0 rfl) ?_
              refine lv_iload_n hx hb dX0_sheet_46 rfl (lv_at hl 3 rfl) ?_
              refine lv_if_ge (tgt := 55) hx hb dX0_sheet_47 (by decide) (fun c_47 => ?_) (fun c_47 => ?_)
              · skip
                refine lv_iconst (v := 0) hx hb dX0_sheet_55 (by decide) ?_
                refine cc_finding S hK hP hS (rmS_ok (Nat.le_of_ble_eq_true rfl)) hl.1 (0) (by omega) rfl (Nat.le_of_ble_eq_true rfl) dX0_sheet_56 (fun H locs hP hS => ?_)
                have ho : o_sheet r (nI v_) 16 n = (fnd 0, r, some 0) := by unfold o_sheet; rw [if_pos c_4, if_pos (by decide), if_pos (Int32.not_lt.mp c_36), if_neg c_42]; rfl
                exact W.mono (fun _ h => MQ.up (c := 0) (n := 0) (by omega) (by omega) h) (kk_iretW S hr hlk hS (by rw [ho]; exact ⟨_, _, cTo.rf t, ((cJ.rf _)).fnd 0, hP, hQ.keep hS⟩) (by rw [ho]) dX0_sheet_59)
              · exact (show False by grind).elim
        · skip
          refine lv_iload_n hx hb dX0_sheet_23 rfl (lv_at hl 2 rfl) ?_
          refine lv_bipush (v := 32) hx hb dX0_sheet_24 (by decide) ?_
          refine lv_icmp_eq (tgt := 35) hx hb dX0_sheet_26 (by decide) (fun c_26 => ?_) (fun c_26 => ?_)
          · skip
            subst c_26
            refine lv_iload_n hx hb dX0_sheet_35 rfl (lv_at hl 3 rfl) ?_
            refine lv_if_lt (tgt := 45) hx hb dX0_sheet_36 (by decide) (fun c_36 => ?_) (fun c_36 => ?_)
            · skip
              refine lv_aload_n hx hb dX0_sheet_45 rfl (lv_at hl 0 rfl) ?_
              refine lv_iload_n hx hb dX0_sheet_46 rfl (lv_at hl 3 rfl) ?_
              refine lv_if_ge (tgt := 55) hx hb dX0_sheet_47 (by decide) (fun c_47 => ?_) (fun c_47 => ?_)
              · exact (show False by grind).elim
              · skip
                refine lv_bipush (v := 6) hx hb dX0_sheet_50 (by decide) ?_
                refine lv_goto (tgt := 56) hx hb dX0_sheet_52 (by decide) ?_
                refine cc_finding S hK hP hS (rmS_ok (Nat.le_of_ble_eq_true rfl)) hl.1 (6) (by omega) rfl (Nat.le_of_ble_eq_true rfl) dX0_sheet_56 (fun H locs hP hS => ?_)
                have ho : o_sheet r (nI v_) 32 n = (fnd 6, r, some 6) := by unfold o_sheet; rw [if_pos c_4, if_pos (by decide), if_neg (Int32.not_le.mpr c_36)]; rfl
                exact W.mono (fun _ h => MQ.up (c := 0) (n := 0) (by omega) (by omega) h) (kk_iretW S hr hlk hS (by rw [ho]; exact ⟨_, _, cTo.rf t, ((cJ.rf _)).fnd 6, hP, hQ.keep hS⟩) (by rw [ho]) dX0_sheet_59)
            · skip
              refine lv_iload_n hx hb dX0_sheet_39 rfl (lv_at hl 3 rfl) ?_
              refine lv_bipush (v := 40) hx hb dX0_sheet_40 (by decide) ?_
              refine lv_icmp_le (tgt := 60) hx hb dX0_sheet_42 (by decide) (fun c_42 => ?_) (fun c_42 => ?_)
              · skip
                obtain ⟨n_, hn_, rfl⟩ := nat_of_le (n := 40) (rfl) (by omega) ⟨Int32.not_lt.mp c_36, c_42⟩
                have hcl_n_ := nI_clamp (n := n_) (by omega)
                refine lv_aload_n hx hb dX0_sheet_60 rfl (lv_at hl 0 rfl) ?_
                refine cg_sheets S hK hP dX0_sheet_61 ?_
                refine lv_iload_n hx hb dX0_sheet_64 rfl (lv_at hl 1 rfl) ?_
                refine ca_sheets S hK hP (v_) (by omega) rfl dX0_sheet_65 ?_
                refine lv_iload_n hx hb dX0_sheet_66 rfl (lv_at hl 2 rfl) ?_
                refine kb_ne0_n (tgt := 74) (a := 32) S rfl (by omega) dX0_sheet_67 (by decide) (fun c_67 => ?_) (fun c_67 => ?_)
                · skip
                  refine lv_iload_n hx hb dX0_sheet_74 rfl (lv_at hl 2 rfl) ?_
                  refine lv_bipush (v := 8) hx hb dX0_sheet_75 (by decide) ?_
                  refine kb_ne_n (tgt := 86) (a := 32) (b := 8) S rfl rfl (by omega) (by omega) dX0_sheet_77 (by decide) (fun c_77 => ?_) (fun c_77 => ?_)
                  · skip
                    refine lv_iload_n hx hb dX0_sheet_86 rfl (lv_at hl 2 rfl) ?_
                    refine lv_bipush (v := 16) hx hb dX0_sheet_87 (by decide) ?_
                    refine kb_ne_n (tgt := 98) (a := 32) (b := 16) S rfl rfl (by omega) (by omega) dX0_sheet_89 (by decide) (fun c_89 => ?_) (fun c_89 => ?_)
                    · skip
                      refine lv_iload_n hx hb dX0_sheet_98 rfl (lv_at hl 3 rfl) ?_
                      have hP0 := hP
                      refine sh_new32 S hK hP hS (n := n_) (by omega) (Nat.le_of_ble_eq_true rfl) (by show 0 + n_ ≤ 40; omega) dX0_sheet_99 (fun H e1 o1 hP hS => ?_)
                      refine ctp_sheets S hK hP hS (fun _ h => h) v_ hv_ (some s.heap.size) dX0_sheet_101 (fun H locs hP o2 hS => ?_)
                      have hQ2 := sh_made32 hP0 hQ hv_ (by omega) e1 o1 o2
                      refine lv_iload_n hx hb dX0_sheet_104 rfl (lv_at hl 2 rfl) ?_
                      refine kb_ne0_n (tgt := 112) (a := 32) S rfl (by omega) dX0_sheet_105 (by decide) (fun c_105 => ?_) (fun c_105 => ?_)
                      · skip
                        refine lv_iload_n hx hb dX0_sheet_112 rfl (lv_at hl 3 rfl) ?_
                        have ho : o_sheet r (nI v_) 32 (nI n_) = (nI n_, r, none) := by unfold o_sheet; rw [if_pos c_4, if_pos (by decide), if_pos (nI_pos' (by omega)), if_pos c_42]; rfl
                        exact W.mono (fun _ h => MQ.up (c := (0 + 1)) (n := (0 + n_)) (by omega) (by omega) h) (kk_iretW S hr hlk hS (by rw [ho]; exact ⟨_, _, cTo.S t v_ _, cJ.rf _, hP, hQ2⟩) (by rw [ho]) dX0_sheet_113)
                      · exact absurd c_105 (by first | decide | omega)
                    · exact absurd c_89 (by decide)
                  · exact absurd c_77 (by decide)
                · exact absurd c_67 (by first | decide | omega)
              · skip
                refine lv_aload_n hx hb dX0_sheet_45 rfl (lv_at hl 0 rfl) ?_
                refine lv_iload_n hx hb dX0_sheet_46 rfl (lv_at hl 3 rfl) ?_
                refine lv_if_ge (tgt := 55) hx hb dX0_sheet_47 (by decide) (fun c_47 => ?_) (fun c_47 => ?_)
                · skip
                  refine lv_iconst (v := 0) hx hb dX0_sheet_55 (by decide) ?_
                  refine cc_finding S hK hP hS (rmS_ok (Nat.le_of_ble_eq_true rfl)) hl.1 (0) (by omega) rfl (Nat.le_of_ble_eq_true rfl) dX0_sheet_56 (fun H locs hP hS => ?_)
                  have ho : o_sheet r (nI v_) 32 n = (fnd 0, r, some 0) := by unfold o_sheet; rw [if_pos c_4, if_pos (by decide), if_pos (Int32.not_lt.mp c_36), if_neg c_42]; rfl
                  exact W.mono (fun _ h => MQ.up (c := 0) (n := 0) (by omega) (by omega) h) (kk_iretW S hr hlk hS (by rw [ho]; exact ⟨_, _, cTo.rf t, ((cJ.rf _)).fnd 0, hP, hQ.keep hS⟩) (by rw [ho]) dX0_sheet_59)
                · exact (show False by grind).elim
          · skip
            refine lv_aload_n hx hb dX0_sheet_29 rfl (lv_at hl 0 rfl) ?_
            refine lv_iconst (v := 0) hx hb dX0_sheet_30 (by decide) ?_
            refine cc_finding S hK hP hS (rmS_ok (Nat.le_of_ble_eq_true rfl)) hl.1 (0) (by omega) rfl (Nat.le_of_ble_eq_true rfl) dX0_sheet_31 (fun H locs hP hS => ?_)
            have ho : o_sheet r (nI v_) w n = (fnd 0, r, some 0) := by unfold o_sheet; rw [if_pos c_4, if_neg (fun z => z.elim c_8 (fun z => z.elim c_14 (fun z => z.elim c_20 c_26)))]; rfl
            exact W.mono (fun _ h => MQ.up (c := 0) (n := 0) (by omega) (by omega) h) (kk_iretW S hr hlk hS (by rw [ho]; exact ⟨_, _, cTo.rf t, ((cJ.rf _)).fnd 0, hP, hQ.keep hS⟩) (by rw [ho]) dX0_sheet_34)

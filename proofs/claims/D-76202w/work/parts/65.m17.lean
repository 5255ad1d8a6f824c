set_option maxHeartbeats 4000000 in
set_option maxRecDepth 100000 in
theorem k_isLetter (l : Launch) (v : Int32) : Met l yX13_isLetter (ws_ yX13_isLetter cX13_isLetter 1 (some .boolean)) (rmF 0) (va_Pc [.int v] (fun _ => True)) (kR (some (.int (b2i (ltr v))))) 0 0 (fun _ => False) := by
  refine kk_start (by decide) (Nat.le_of_ble_eq_true rfl) ?_
  intro p e s m below meth c S hr hlk hin hB ls hl
  have hx := S.1
  have hb := S.2.1
  have hown : s.vm.findClass RX13 = some m.cls := S.2.2.2.1
  have hts := S.2.2.2.2
  have hl : lv_has ls 1 [(0, .int (v))] := hl
  refine lv_iload_n hx hb dX13_isLetter_0 rfl (lv_at hl 0 rfl) ?_
  refine lv_bipush (v := 97) hx hb dX13_isLetter_1 (by decide) ?_
  refine lv_icmp_lt (tgt := 16) hx hb dX13_isLetter_3 (by decide) (fun c_3 => ?_) (fun c_3 => ?_)
  · skip
    refine lv_iconst (v := 0) hx hb dX13_isLetter_16 (by decide) ?_
    exact kk_zfR S hr hlk rfl rfl (by unfold ltr; grind) dX13_isLetter_17
  · skip
    refine lv_iload_n hx hb dX13_isLetter_6 rfl (lv_at hl 0 rfl) ?_
    refine lv_bipush (v := 122) hx hb dX13_isLetter_7 (by decide) ?_
    refine lv_icmp_gt (tgt := 16) hx hb dX13_isLetter_9 (by decide) (fun c_9 => ?_) (fun c_9 => ?_)
    · skip
      refine lv_iconst (v := 0) hx hb dX13_isLetter_16 (by decide) ?_
      exact kk_zfR S hr hlk rfl rfl (by unfold ltr; grind) dX13_isLetter_17
    · skip
      refine lv_iconst (v := 1) hx hb dX13_isLetter_12 (by decide) ?_
      refine lv_goto (tgt := 17) hx hb dX13_isLetter_13 (by decide) ?_
      exact kk_ztR S hr hlk rfl rfl (by unfold ltr; grind) dX13_isLetter_17
set_option maxHeartbeats 4000000 in
set_option maxRecDepth 100000 in
theorem k_isDigit (l : Launch) (v : Int32) : Met l yX13_isDigit (ws_ yX13_isDigit cX13_isDigit 1 (some .boolean)) (rmF 0) (va_Pc [.int v] (fun _ => True)) (kR (some (.int (b2i (dgt v))))) 0 0 (fun _ => False) := by
  refine kk_start (by decide) (Nat.le_of_ble_eq_true rfl) ?_
  intro p e s m below meth c S hr hlk hin hB ls hl
  have hx := S.1
  have hb := S.2.1
  have hown : s.vm.findClass RX13 = some m.cls := S.2.2.2.1
  have hts := S.2.2.2.2
  have hl : lv_has ls 1 [(0, .int (v))] := hl
  refine lv_iload_n hx hb dX13_isDigit_0 rfl (lv_at hl 0 rfl) ?_
  refine lv_bipush (v := 48) hx hb dX13_isDigit_1 (by decide) ?_
  refine lv_icmp_lt (tgt := 16) hx hb dX13_isDigit_3 (by decide) (fun c_3 => ?_) (fun c_3 => ?_)
  · skip
    refine lv_iconst (v := 0) hx hb dX13_isDigit_16 (by decide) ?_
    exact kk_zfR S hr hlk rfl rfl (by unfold dgt; grind) dX13_isDigit_17
  · skip
    refine lv_iload_n hx hb dX13_isDigit_6 rfl (lv_at hl 0 rfl) ?_
    refine lv_bipush (v := 57) hx hb dX13_isDigit_7 (by decide) ?_
    refine lv_icmp_gt (tgt := 16) hx hb dX13_isDigit_9 (by decide) (fun c_9 => ?_) (fun c_9 => ?_)
    · skip
      refine lv_iconst (v := 0) hx hb dX13_isDigit_16 (by decide) ?_
      exact kk_zfR S hr hlk rfl rfl (by unfold dgt; grind) dX13_isDigit_17
    · skip
      refine lv_iconst (v := 1) hx hb dX13_isDigit_12 (by decide) ?_
      refine lv_goto (tgt := 17) hx hb dX13_isDigit_13 (by decide) ?_
      exact kk_ztR S hr hlk rfl rfl (by unfold dgt; grind) dX13_isDigit_17
set_option maxHeartbeats 4000000 in
set_option maxRecDepth 100000 in
theorem k_byteAt (l : Launch) (t : MT) (r : Rw) (x : Nat → Rw) (k : Nat) (tp : Nat) (htp : x 9 1 = nI tp) (h120 : tp ≤ 120) (hk : k < 2 ^ 31) : Met l yX13_byteAt (ws_ yX13_byteAt cX13_byteAt 2 (some .int)) (rmF 0) (va_Pc [.ref (t.2.1 0), .int (nI k)] (fun U => mK t U ∧ mW t r x U.heap)) (kR (some (.int (mB x tp k)))) 0 0 (fun _ => False) := by
  refine kk_start (by decide) (Nat.le_of_ble_eq_true rfl) ?_
  intro p e s m below meth c S hr hlk hin hB ls hl
  obtain ⟨hK, hP⟩ := hB
  have hx := S.1
  have hb := S.2.1
  have hown : s.vm.findClass RX13 = some m.cls := S.2.2.2.1
  have hts := S.2.2.2.2
  have hl : lv_has ls 2 [(0, .ref (t.2.1 0)), (1, .int ((nI k)))] := hl
  refine lv_iload_n hx hb dX13_byteAt_0 rfl (lv_at hl 1 rfl) ?_
  refine lv_aload_n hx hb dX13_byteAt_1 rfl (lv_at hl 0 rfl) ?_
  refine mg_taped S hK hP dX13_byteAt_2 ?_
  refine kb_ge_n (tgt := 17) (a := k) (b := tp) S rfl htp (by omega) (by omega) dX13_byteAt_5 (by decide) (fun c_5 => ?_) (fun c_5 => ?_)
  · skip
    refine lv_iconst (v := (-1)) hx hb dX13_byteAt_17 (by decide) ?_
    exact kk_iretR S hr hlk rfl rfl ((mB_out c_5).symm) dX13_byteAt_18
  · skip
    refine lv_aload_n hx hb dX13_byteAt_8 rfl (lv_at hl 0 rfl) ?_
    refine mg_tape S hK hP dX13_byteAt_9 ?_
    refine lv_iload_n hx hb dX13_byteAt_12 rfl (lv_at hl 1 rfl) ?_
    refine mk_ld5 S hK hP (k) (by omega) rfl dX13_byteAt_13 ?_
    refine lv_goto (tgt := 18) hx hb dX13_byteAt_14 (by decide) ?_
    exact kk_iretR S hr hlk rfl rfl ((mB_in c_5).symm) dX13_byteAt_18
section MC
variable {p : Program} {l : Launch} {e : Env} {R : Room} {s : State} {m : MethodId} {args : Array Value} {below : List Frame} {meth : Method} {c : Code} {H H0 : Heap} {locs : List Loc} {cells slots : Nat} {Q : State → Prop}
variable {cc : ByteArray} {pc nL : Nat} {ls : Array Slot} {rest : List Value} {t : MT} {r : Rw} {x : Nat → Rw}













theorem c_isLetter (S : CallFix p m c cc nL s args lw_all RX13) (hR : kRm R 1 cells slots) (hsz : ls.size = nL) {v : Int32} (hrest : (rest.map fun v => v.category).sum ≤ 8) (hdg : decode cc pc = .ok (.invokestatic 219, 3)) (kk : W p l e R s m args below meth c H locs cells slots Q (F0 m (pc + 3) ls (.int (b2i (ltr v)) :: rest))) : W p l e R s m args below meth c H locs cells slots Q (F0 m pc ls (.int v :: rest)) := by
  exact kk_Ri (W.runS (As := [.int v]) (rest := rest) S (k_isLetter l v) (va_cwS 1 S.2.2.2.2 (lw_S q1599 q1600 q117 q1601) rfl rfl rfl (by decide +kernel) ⟨hR.1, by have := hR.2.1; show 8 + (1 + 11) + 38 * 0 ≤ R.locals; omega⟩) ⟨kk_blindT, fun U hU hW => ⟨rfl, trivial⟩⟩ rfl rfl hsz rfl (lv_room hrest) hdg ⟨hR.2.2.1, hR.2.2.2⟩) kk
theorem c_isDigit (S : CallFix p m c cc nL s args lw_all RX13) (hR : kRm R 1 cells slots) (hsz : ls.size = nL) {v : Int32} (hrest : (rest.map fun v => v.category).sum ≤ 8) (hdg : decode cc pc = .ok (.invokestatic 222, 3)) (kk : W p l e R s m args below meth c H locs cells slots Q (F0 m (pc + 3) ls (.int (b2i (dgt v)) :: rest))) : W p l e R s m args below meth c H locs cells slots Q (F0 m pc ls (.int v :: rest)) := by
  exact kk_Ri (W.runS (As := [.int v]) (rest := rest) S (k_isDigit l v) (va_cwS 1 S.2.2.2.2 (lw_S q1602 q1603 q117 q1604) rfl rfl rfl (by decide +kernel) ⟨hR.1, by have := hR.2.1; show 8 + (1 + 11) + 38 * 0 ≤ R.locals; omega⟩) ⟨kk_blindT, fun U hU hW => ⟨rfl, trivial⟩⟩ rfl rfl hsz rfl (lv_room hrest) hdg ⟨hR.2.2.1, hR.2.2.2⟩) kk
theorem c_byteAt (S : CallFix p m c cc nL s args lw_all RX13) (hK : mK t s) (hP : mW t r x H) (hR : kRm R 1 cells slots) (hsz : ls.size = nL) (k : Nat) (tp : Nat) (htp : x 9 1 = nI tp) (h120 : tp ≤ 120) (hk : k < 2 ^ 31) {i0 : Int32} (e0 : i0 = nI k) (hrest : (rest.map fun v => v.category).sum ≤ 8) (hdg : decode cc pc = .ok (.invokevirtual 216, 3)) (kk : W p l e R s m args below meth c H locs cells slots Q (F0 m (pc + 3) ls (.int (mB x tp k) :: rest))) : W p l e R s m args below meth c H locs cells slots Q (F0 m pc ls (.int i0 :: .ref (t.2.1 0) :: rest)) := by
  subst e0
  exact kk_Ri (W.runV (As := [.int (nI k)]) (rest := rest) S (k_byteAt l t r x k tp htp h120 hk) (cwV 1 S.2.2.2.2 (lw_V q1595 q1597 qs87 q117 q1598) rfl rfl rfl (by decide +kernel) ⟨hR.1, by have := hR.2.1; show 8 + (2 + 11) + 38 * 0 ≤ R.locals; omega⟩) ⟨m_blind, m_recv hK hP, m_pre hK hP⟩ rfl rfl hsz rfl (lv_room hrest) hdg ⟨hR.2.2.1, hR.2.2.2⟩) kk
end MC
set_option maxHeartbeats 4000000 in
set_option maxRecDepth 100000 in
theorem k_nextToken (l : Launch) (t : MT) (r : Rw) (x : Nat → Rw) (tp : Nat) (k0 : Nat) (htp : x 9 1 = nI tp) (h120 : tp ≤ 120) (hto : x 9 6 = nI k0) (hk0 : k0 ≤ tp) : Met l yX13_nextToken (ws_ yX13_nextToken cX13_nextToken 2 none) (rmF 1) (va_Pc [.ref (t.2.1 0)] (fun U => mK t U ∧ mW t r x U.heap)) (kW none (mW t (r) (QX x tp k0)) (mA t)) 0 0 (mA t) := by
  refine kk_start (by decide) (Nat.le_of_ble_eq_true rfl) ?_
  intro p e s m below meth c S hr hlk hin hB ls hl
  obtain ⟨hK, hP⟩ := hB
  have hx := S.1
  have hb := S.2.1
  have hown : s.vm.findClass RX13 = some m.cls := S.2.2.2.1
  have hts := S.2.2.2.2
  have hS : va_S (mA t) s.heap s.heap [] := va_S.rf
  have hl : lv_has ls 2 [(0, .ref (t.2.1 0))] := hl
  rw [← XT_in x] at hP
  refine lv_aload_n hx hb dX13_nextToken_0 rfl (lv_at hl 0 rfl) ?_
  refine lv_aload_n hx hb dX13_nextToken_1 rfl (lv_at hl 0 rfl) ?_
  refine mg_to S hK hP dX13_nextToken_2 ?_
  refine kb_nat (y := (x 9 6)) rfl ?_
  refine kb_nat (y := nI (k0)) hto ?_
  refine mp_from S hK hP hS dX13_nextToken_5 (fun H locs hP hS => ?_)
  rw [XT_5] at hP
  have cut_34 : ∀ (k : Nat) (H : Heap) (locs : List Loc) (ls : Array Slot), (k = (q_sk (mB x tp) 121 k0)) → (k ≤ tp) → mW t (r) ((XT x (x 9 4) (nI k) (x 9 6) (x 9 7) (x 9 8))) H → va_S (mA t) s.heap H locs → lv_has ls 2 [(0, .ref (t.2.1 0))] → W p l e (rmF 1) s m ([.ref (t.2.1 0)] : List Value).toArray below meth c H locs 0 0 (MQ below (kW none (mW t (r) (QX x tp k0)) (mA t)) ([.ref (t.2.1 0)] : List Value).toArray s 0 0 (mA t)) (F0 m 34 ls []) := by
    intro k H locs ls hF hk hP hS hl
    refine lv_aload_n hx hb dX13_nextToken_34 rfl (lv_at hl 0 rfl) ?_
    refine lv_aload_n hx hb dX13_nextToken_35 rfl (lv_at hl 0 rfl) ?_
    refine mg_from S hK hP dX13_nextToken_36 ?_
    refine kb_nat (y := (nI k)) rfl ?_
    refine mp_to S hK hP hS dX13_nextToken_39 (fun H locs hP hS => ?_)
    rw [XT_6] at hP
    refine lv_aload_n hx hb dX13_nextToken_42 rfl (lv_at hl 0 rfl) ?_
    refine lv_aload_n hx hb dX13_nextToken_43 rfl (lv_at hl 0 rfl) ?_
    refine mg_from S hK hP dX13_nextToken_44 ?_
    refine kb_nat (y := (nI k)) rfl ?_
    refine c_byteAt S hK hP (rm_ok (Nat.le_of_ble_eq_true rfl)) hl.1 (k) (tp) htp (by omega) (by omega) rfl (Nat.le_of_ble_eq_true rfl) dX13_nextToken_47 ?_
    refine kb_nat (y := mB x tp k) rfl ?_
    refine lv_istore_n (lv' := [(1, .int (mB x tp k)), (0, .ref (t.2.1 0))]) hx hb dX13_nextToken_50 rfl hl (by decide) rfl (fun ls hl => ?_)
    refine lv_aload_n hx hb dX13_nextToken_51 rfl (lv_at hl 1 rfl) ?_
    refine lv_iload_n hx hb dX13_nextToken_52 rfl (lv_at hl 0 rfl) ?_
    refine lv_if_ge (tgt := 60) hx hb dX13_nextToken_53 (by decide) (fun c_53 => ?_) (fun c_53 => ?_)
    · skip
      refine lv_iload_n hx hb dX13_nextToken_60 rfl (lv_at hl 0 rfl) ?_
      refine c_isLetter S (rm_ok (Nat.le_of_ble_eq_true rfl)) hl.1 (Nat.le_of_ble_eq_true rfl) dX13_nextToken_61 ?_
      refine kb_ifeq (tgt := 71) S dX13_nextToken_64 (by decide) (fun c_64 => ?_) (fun c_64 => ?_)
      · skip
        refine lv_iload_n hx hb dX13_nextToken_71 rfl (lv_at hl 0 rfl) ?_
        refine c_isDigit S (rm_ok (Nat.le_of_ble_eq_true rfl)) hl.1 (Nat.le_of_ble_eq_true rfl) dX13_nextToken_72 ?_
        refine kb_ifeq (tgt := 82) S dX13_nextToken_75 (by decide) (fun c_75 => ?_) (fun c_75 => ?_)
        · skip
          refine lv_iload_n hx hb dX13_nextToken_82 rfl (lv_at hl 0 rfl) ?_
          refine lv_bipush (v := 59) hx hb dX13_nextToken_83 (by decide) ?_
          refine lv_icmp_ne (tgt := 92) hx hb dX13_nextToken_85 (by decide) (fun c_85 => ?_) (fun c_85 => ?_)
          · skip
            refine lv_iconst (v := 4) hx hb dX13_nextToken_92 (by decide) ?_
            refine mp_token S hK hP hS dX13_nextToken_93 (fun H locs hP hS => ?_)
            rw [XT_4] at hP
            refine lv_aload_n hx hb dX13_nextToken_96 rfl (lv_at hl 1 rfl) ?_
            refine lv_iconst (v := 0) hx hb dX13_nextToken_97 (by decide) ?_
            refine mp_value S hK hP hS dX13_nextToken_98 (fun H locs hP hS => ?_)
            rw [XT_7] at hP
            refine lv_aload_n hx hb dX13_nextToken_101 rfl (lv_at hl 1 rfl) ?_
            refine mg_token S hK hP dX13_nextToken_102 ?_
            refine kb_nat (y := 4) rfl ?_
            refine lv_iconst (v := 1) hx hb dX13_nextToken_105 (by decide) ?_
            refine kb_ne_n (tgt := 136) (a := 4) (b := 1) S rfl rfl (by omega) (by omega) dX13_nextToken_106 (by decide) (fun c_106 => ?_) (fun c_106 => ?_)
            · skip
              refine lv_aload_n hx hb dX13_nextToken_136 rfl (lv_at hl 1 rfl) ?_
              refine mg_token S hK hP dX13_nextToken_137 ?_
              refine kb_nat (y := 4) rfl ?_
              refine lv_iconst (v := 2) hx hb dX13_nextToken_140 (by decide) ?_
              refine kb_ne_n (tgt := 211) (a := 4) (b := 2) S rfl rfl (by omega) (by omega) dX13_nextToken_141 (by decide) (fun c_141 => ?_) (fun c_141 => ?_)
              · skip
                refine lv_aload_n hx hb dX13_nextToken_211 rfl (lv_at hl 1 rfl) ?_
                refine lv_dup hx hb dX13_nextToken_212 rfl ?_
                refine mg_to S hK hP dX13_nextToken_213 ?_
                refine kb_nat (y := (nI k)) rfl ?_
                refine lv_aload_n hx hb dX13_nextToken_216 rfl (lv_at hl 1 rfl) ?_
                refine mg_token S hK hP dX13_nextToken_217 ?_
                refine kb_nat (y := 4) rfl ?_
                refine lv_iconst (v := 2) hx hb dX13_nextToken_220 (by decide) ?_
                refine kb_le_n (tgt := 228) (a := 4) (b := 2) S rfl rfl (by omega) (by omega) dX13_nextToken_221 (by decide) (fun c_221 => ?_) (fun c_221 => ?_)
                · exact absurd c_221 (by decide)
                · skip
                  refine lv_iconst (v := 1) hx hb dX13_nextToken_224 (by decide) ?_
                  refine lv_goto (tgt := 229) hx hb dX13_nextToken_225 (by decide) ?_
                  refine lv_iadd hx hb dX13_nextToken_229 ?_
                  refine kb_nat (y := nI ((k + 1))) (nn_add rfl rfl) ?_
                  refine mp_to S hK hP hS dX13_nextToken_230 (fun H locs hP hS => ?_)
                  rw [XT_6] at hP
                  exact kk_vretW S hr hlk hS (by unfold QX; rw [← hF]; have hq : q_tok (mB x tp k) = 4 := qx_4 c_53 c_64 c_75 c_85; unfold q_to q_val; rw [hq]; exact hP) dX13_nextToken_233
              · exact absurd c_141 (by decide)
            · exact absurd c_106 (by decide)
          · skip
            refine lv_iconst (v := 3) hx hb dX13_nextToken_88 (by decide) ?_
            refine lv_goto (tgt := 93) hx hb dX13_nextToken_89 (by decide) ?_
            refine mp_token S hK hP hS dX13_nextToken_93 (fun H locs hP hS => ?_)
            rw [XT_4] at hP
            refine lv_aload_n hx hb dX13_nextToken_96 rfl (lv_at hl 1 rfl) ?_
            refine lv_iconst (v := 0) hx hb dX13_nextToken_97 (by decide) ?_
            refine mp_value S hK hP hS dX13_nextToken_98 (fun H locs hP hS => ?_)
            rw [XT_7] at hP
            refine lv_aload_n hx hb dX13_nextToken_101 rfl (lv_at hl 1 rfl) ?_
            refine mg_token S hK hP dX13_nextToken_102 ?_
            refine kb_nat (y := 3) rfl ?_
            refine lv_iconst (v := 1) hx hb dX13_nextToken_105 (by decide) ?_
            refine kb_ne_n (tgt := 136) (a := 3) (b := 1) S rfl rfl (by omega) (by omega) dX13_nextToken_106 (by decide) (fun c_106 => ?_) (fun c_106 => ?_)
            · skip
              refine lv_aload_n hx hb dX13_nextToken_136 rfl (lv_at hl 1 rfl) ?_
              refine mg_token S hK hP dX13_nextToken_137 ?_
              refine kb_nat (y := 3) rfl ?_
              refine lv_iconst (v := 2) hx hb dX13_nextToken_140 (by decide) ?_
              refine kb_ne_n (tgt := 211) (a := 3) (b := 2) S rfl rfl (by omega) (by omega) dX13_nextToken_141 (by decide) (fun c_141 => ?_) (fun c_141 => ?_)
              · skip
                refine lv_aload_n hx hb dX13_nextToken_211 rfl (lv_at hl 1 rfl) ?_
                refine lv_dup hx hb dX13_nextToken_212 rfl ?_
                refine mg_to S hK hP dX13_nextToken_213 ?_
                refine kb_nat (y := (nI k)) rfl ?_
                refine lv_aload_n hx hb dX13_nextToken_216 rfl (lv_at hl 1 rfl) ?_
                refine mg_token S hK hP dX13_nextToken_217 ?_
                refine kb_nat (y := 3) rfl ?_
                refine lv_iconst (v := 2) hx hb dX13_nextToken_220 (by decide) ?_
                refine kb_le_n (tgt := 228) (a := 3) (b := 2) S rfl rfl (by omega) (by omega) dX13_nextToken_221 (by decide) (fun c_221 => ?_) (fun c_221 => ?_)
                · exact absurd c_221 (by decide)
                · skip
                  refine lv_iconst (v := 1) hx hb dX13_nextToken_224 (by decide) ?_
                  refine lv_goto (tgt := 229) hx hb dX13_nextToken_225 (by decide) ?_
                  refine lv_iadd hx hb dX13_nextToken_229 ?_
                  refine kb_nat (y := nI ((k + 1))) (nn_add rfl rfl) ?_
                  refine mp_to S hK hP hS dX13_nextToken_230 (fun H locs hP hS => ?_)
                  rw [XT_6] at hP
                  exact kk_vretW S hr hlk hS (by unfold QX; rw [← hF]; have hq : q_tok (mB x tp k) = 3 := qx_3 c_53 c_64 c_75 c_85; unfold q_to q_val; rw [hq]; exact hP) dX13_nextToken_233
              · exact absurd c_141 (by decide)
            · exact absurd c_106 (by decide)
        · skip
          refine lv_iconst (v := 2) hx hb dX13_nextToken_78 (by decide) ?_
          refine lv_goto (tgt := 93) hx hb dX13_nextToken_79 (by decide) ?_
          refine mp_token S hK hP hS dX13_nextToken_93 (fun H locs hP hS => ?_)
          rw [XT_4] at hP
          refine lv_aload_n hx hb dX13_nextToken_96 rfl (lv_at hl 1 rfl) ?_
          refine lv_iconst (v := 0) hx hb dX13_nextToken_97 (by decide) ?_
          refine mp_value S hK hP hS dX13_nextToken_98 (fun H locs hP hS => ?_)
          rw [XT_7] at hP
          refine lv_aload_n hx hb dX13_nextToken_101 rfl (lv_at hl 1 rfl) ?_
          refine mg_token S hK hP dX13_nextToken_102 ?_
          refine kb_nat (y := 2) rfl ?_
          refine lv_iconst (v := 1) hx hb dX13_nextToken_105 (by decide) ?_
          refine kb_ne_n (tgt := 136) (a := 2) (b := 1) S rfl rfl (by omega) (by omega) dX13_nextToken_106 (by decide) (fun c_106 => ?_) (fun c_106 => ?_)
          · skip
            have lp_136 : ∀ (j : Nat) (q : Nat) (v : Int32) (H : Heap) (locs : List Loc) (ls : Array Slot), (tp < q + j) → (q_dg (mB x tp) j q v = q_dg (mB x tp) 121 k 0) → (q ≤ tp) → mW t (r) ((XT x 2 (nI k) (nI q) v (x 9 8))) H → va_S (mA t) s.heap H locs → lv_has ls 2 [(0, .ref (t.2.1 0)), (1, .int (mB x tp k))] → W p l e (rmF 1) s m ([.ref (t.2.1 0)] : List Value).toArray below meth c H locs 0 0 (MQ below (kW none (mW t (r) (QX x tp k0)) (mA t)) ([.ref (t.2.1 0)] : List Value).toArray s 0 0 (mA t)) (F0 m 136 ls []) := by
              intro j
              induction j with
              | zero =>
                intro q v H locs ls hkj he hq hP hS hl
                refine lv_aload_n hx hb dX13_nextToken_136 rfl (lv_at hl 0 rfl) ?_
                refine mg_token S hK hP dX13_nextToken_137 ?_
                refine kb_nat (y := 2) rfl ?_
                refine lv_iconst (v := 2) hx hb dX13_nextToken_140 (by decide) ?_
                refine kb_ne_n (tgt := 211) (a := 2) (b := 2) S rfl rfl (by omega) (by omega) dX13_nextToken_141 (by decide) (fun c_141 => ?_) (fun c_141 => ?_)
                · exact absurd c_141 (by decide)
                · skip
                  refine lv_aload_n hx hb dX13_nextToken_144 rfl (lv_at hl 0 rfl) ?_
                  refine lv_aload_n hx hb dX13_nextToken_145 rfl (lv_at hl 0 rfl) ?_
                  refine mg_to S hK hP dX13_nextToken_146 ?_
                  refine kb_nat (y := (nI q)) rfl ?_
                  refine c_byteAt S hK hP (rm_ok (Nat.le_of_ble_eq_true rfl)) hl.1 (q) (tp) htp (by omega) (by omega) rfl (Nat.le_of_ble_eq_true rfl) dX13_nextToken_149 ?_
                  refine c_isDigit S (rm_ok (Nat.le_of_ble_eq_true rfl)) hl.1 (Nat.le_of_ble_eq_true rfl) dX13_nextToken_152 ?_
                  refine kb_ifeq (tgt := 211) S dX13_nextToken_155 (by decide) (fun c_155 => ?_) (fun c_155 => ?_)
                  · skip
                    have hres : (q, v) = q_dg (mB x tp) 121 k 0 := he
                    refine lv_aload_n hx hb dX13_nextToken_211 rfl (lv_at hl 0 rfl) ?_
                    refine lv_dup hx hb dX13_nextToken_212 rfl ?_
                    refine mg_to S hK hP dX13_nextToken_213 ?_
                    refine kb_nat (y := (nI q)) rfl ?_
                    refine lv_aload_n hx hb dX13_nextToken_216 rfl (lv_at hl 0 rfl) ?_
                    refine mg_token S hK hP dX13_nextToken_217 ?_
                    refine kb_nat (y := 2) rfl ?_
                    refine lv_iconst (v := 2) hx hb dX13_nextToken_220 (by decide) ?_
                    refine kb_le_n (tgt := 228) (a := 2) (b := 2) S rfl rfl (by omega) (by omega) dX13_nextToken_221 (by decide) (fun c_221 => ?_) (fun c_221 => ?_)
                    · skip
                      refine lv_iconst (v := 0) hx hb dX13_nextToken_228 (by decide) ?_
                      refine lv_iadd hx hb dX13_nextToken_229 ?_
                      refine kb_nat (y := nI ((q + 0))) (nn_add rfl rfl) ?_
                      refine mp_to S hK hP hS dX13_nextToken_230 (fun H locs hP hS => ?_)
                      rw [XT_6] at hP
                      exact kk_vretW S hr hlk hS (by unfold QX; rw [← hF]; have hq : q_tok (mB x tp k) = 2 := qx_2 c_53 c_64 c_75; unfold q_to q_val; rw [hq]; show mW t r (XT x (nI 2) (nI k) (nI (q_dg (mB x tp) 121 k 0).1) (q_dg (mB x tp) 121 k 0).2 (x 9 8)) H; rw [← hres]; exact hP) dX13_nextToken_233
                    · exact absurd c_221 (by decide)
                  · exact absurd (show dgt (mB x tp q) from c_155) (by rw [mB_out (by omega)]; decide)
              | succ j ih =>
                intro q v H locs ls hkj he hq hP hS hl
                have ih_136 := ih
                refine lv_aload_n hx hb dX13_nextToken_136 rfl (lv_at hl 0 rfl) ?_
                refine mg_token S hK hP dX13_nextToken_137 ?_
                refine kb_nat (y := 2) rfl ?_
                refine lv_iconst (v := 2) hx hb dX13_nextToken_140 (by decide) ?_
                refine kb_ne_n (tgt := 211) (a := 2) (b := 2) S rfl rfl (by omega) (by omega) dX13_nextToken_141 (by decide) (fun c_141 => ?_) (fun c_141 => ?_)
                · exact absurd c_141 (by decide)
                · skip
                  refine lv_aload_n hx hb dX13_nextToken_144 rfl (lv_at hl 0 rfl) ?_
                  refine lv_aload_n hx hb dX13_nextToken_145 rfl (lv_at hl 0 rfl) ?_
                  refine mg_to S hK hP dX13_nextToken_146 ?_
                  refine kb_nat (y := (nI q)) rfl ?_
                  refine c_byteAt S hK hP (rm_ok (Nat.le_of_ble_eq_true rfl)) hl.1 (q) (tp) htp (by omega) (by omega) rfl (Nat.le_of_ble_eq_true rfl) dX13_nextToken_149 ?_
                  refine c_isDigit S (rm_ok (Nat.le_of_ble_eq_true rfl)) hl.1 (Nat.le_of_ble_eq_true rfl) dX13_nextToken_152 ?_
                  refine kb_ifeq (tgt := 211) S dX13_nextToken_155 (by decide) (fun c_155 => ?_) (fun c_155 => ?_)
                  · skip
                    have hres : (q, v) = q_dg (mB x tp) 121 k 0 := by (have h := he; rw [q_dg, if_neg (show ¬ dgt (mB x tp q) from c_155)] at h; exact h)
                    refine lv_aload_n hx hb dX13_nextToken_211 rfl (lv_at hl 0 rfl) ?_
                    refine lv_dup hx hb dX13_nextToken_212 rfl ?_
                    refine mg_to S hK hP dX13_nextToken_213 ?_
                    refine kb_nat (y := (nI q)) rfl ?_
                    refine lv_aload_n hx hb dX13_nextToken_216 rfl (lv_at hl 0 rfl) ?_
                    refine mg_token S hK hP dX13_nextToken_217 ?_
                    refine kb_nat (y := 2) rfl ?_
                    refine lv_iconst (v := 2) hx hb dX13_nextToken_220 (by decide) ?_
                    refine kb_le_n (tgt := 228) (a := 2) (b := 2) S rfl rfl (by omega) (by omega) dX13_nextToken_221 (by decide) (fun c_221 => ?_) (fun c_221 => ?_)
                    · skip
                      refine lv_iconst (v := 0) hx hb dX13_nextToken_228 (by decide) ?_
                      refine lv_iadd hx hb dX13_nextToken_229 ?_
                      refine kb_nat (y := nI ((q + 0))) (nn_add rfl rfl) ?_
                      refine mp_to S hK hP hS dX13_nextToken_230 (fun H locs hP hS => ?_)
                      rw [XT_6] at hP
                      exact kk_vretW S hr hlk hS (by unfold QX; rw [← hF]; have hq : q_tok (mB x tp k) = 2 := qx_2 c_53 c_64 c_75; unfold q_to q_val; rw [hq]; show mW t r (XT x (nI 2) (nI k) (nI (q_dg (mB x tp) 121 k 0).1) (q_dg (mB x tp) 121 k 0).2 (x 9 8)) H; rw [← hres]; exact hP) dX13_nextToken_233
                    · exact absurd c_221 (by decide)
                  · skip
                    refine lv_aload_n hx hb dX13_nextToken_158 rfl (lv_at hl 0 rfl) ?_
                    refine lv_aload_n hx hb dX13_nextToken_159 rfl (lv_at hl 0 rfl) ?_
                    refine mg_value S hK hP dX13_nextToken_160 ?_
                    refine kb_nat (y := v) rfl ?_
                    refine lv_sipush (v := 999) hx hb dX13_nextToken_163 (by decide) ?_
                    refine lv_icmp_le (tgt := 176) hx hb dX13_nextToken_166 (by decide) (fun c_166 => ?_) (fun c_166 => ?_)
                    · skip
                      refine lv_bipush (v := 10) hx hb dX13_nextToken_176 (by decide) ?_
                      refine lv_aload_n hx hb dX13_nextToken_178 rfl (lv_at hl 0 rfl) ?_
                      refine mg_value S hK hP dX13_nextToken_179 ?_
                      refine kb_nat (y := v) rfl ?_
                      refine lv_imul hx hb dX13_nextToken_182 ?_
                      refine lv_aload_n hx hb dX13_nextToken_183 rfl (lv_at hl 0 rfl) ?_
                      refine lv_aload_n hx hb dX13_nextToken_184 rfl (lv_at hl 0 rfl) ?_
                      refine mg_to S hK hP dX13_nextToken_185 ?_
                      refine kb_nat (y := (nI q)) rfl ?_
                      refine c_byteAt S hK hP (rm_ok (Nat.le_of_ble_eq_true rfl)) hl.1 (q) (tp) htp (by omega) (by omega) rfl (Nat.le_of_ble_eq_true rfl) dX13_nextToken_188 ?_
                      refine kb_nat (y := mB x tp q) rfl ?_
                      refine lv_iadd hx hb dX13_nextToken_191 ?_
                      refine lv_bipush (v := 48) hx hb dX13_nextToken_192 (by decide) ?_
                      refine lv_isub hx hb dX13_nextToken_194 ?_
                      refine mp_value S hK hP hS dX13_nextToken_195 (fun H locs hP hS => ?_)
                      rw [XT_7] at hP
                      refine lv_aload_n hx hb dX13_nextToken_198 rfl (lv_at hl 0 rfl) ?_
                      refine lv_dup hx hb dX13_nextToken_199 rfl ?_
                      refine mg_to S hK hP dX13_nextToken_200 ?_
                      refine kb_nat (y := (nI q)) rfl ?_
                      refine lv_iconst (v := 1) hx hb dX13_nextToken_203 (by decide) ?_
                      refine lv_iadd hx hb dX13_nextToken_204 ?_
                      refine kb_nat (y := nI ((q + 1))) (nn_add rfl rfl) ?_
                      refine mp_to S hK hP hS dX13_nextToken_205 (fun H locs hP hS => ?_)
                      rw [XT_6] at hP
                      refine lv_goto (tgt := 136) hx hb dX13_nextToken_208 (by decide) ?_
                      exact ih_136  (q + 1) (((10 * v) + (mB x tp q)) - 48) _ _ ls (by omega) (by have h := he; rw [q_dg, if_pos (show dgt (mB x tp q) from c_155), q_nv, if_pos c_166] at h; exact h) (mB_lt (Int32.le_trans (by decide) c_155.1)) hP hS (lv_sub hl [0, 1] rfl)
                    · skip
                      refine lv_aload_n hx hb dX13_nextToken_169 rfl (lv_at hl 0 rfl) ?_
                      refine mg_value S hK hP dX13_nextToken_170 ?_
                      refine kb_nat (y := v) rfl ?_
                      refine lv_goto (tgt := 195) hx hb dX13_nextToken_173 (by decide) ?_
                      refine mp_value S hK hP hS dX13_nextToken_195 (fun H locs hP hS => ?_)
                      rw [XT_7] at hP
                      refine lv_aload_n hx hb dX13_nextToken_198 rfl (lv_at hl 0 rfl) ?_
                      refine lv_dup hx hb dX13_nextToken_199 rfl ?_
                      refine mg_to S hK hP dX13_nextToken_200 ?_
                      refine kb_nat (y := (nI q)) rfl ?_
                      refine lv_iconst (v := 1) hx hb dX13_nextToken_203 (by decide) ?_
                      refine lv_iadd hx hb dX13_nextToken_204 ?_
                      refine kb_nat (y := nI ((q + 1))) (nn_add rfl rfl) ?_
                      refine mp_to S hK hP hS dX13_nextToken_205 (fun H locs hP hS => ?_)
                      rw [XT_6] at hP
                      refine lv_goto (tgt := 136) hx hb dX13_nextToken_208 (by decide) ?_
                      exact ih_136  (q + 1) v _ _ ls (by omega) (by have h := he; rw [q_dg, if_pos (show dgt (mB x tp q) from c_155), q_nv, if_neg c_166] at h; exact h) (mB_lt (Int32.le_trans (by decide) c_155.1)) hP hS (lv_sub hl [0, 1] rfl)
            exact lp_136 121 k 0 _ _ ls (by omega) (rfl) (hk) hP hS (lv_sub hl [1, 0] rfl)
          · exact absurd c_106 (by decide)
      · skip
        refine lv_iconst (v := 1) hx hb dX13_nextToken_67 (by decide) ?_
        refine lv_goto (tgt := 93) hx hb dX13_nextToken_68 (by decide) ?_
        refine mp_token S hK hP hS dX13_nextToken_93 (fun H locs hP hS => ?_)
        rw [XT_4] at hP
        refine lv_aload_n hx hb dX13_nextToken_96 rfl (lv_at hl 1 rfl) ?_
        refine lv_iconst (v := 0) hx hb dX13_nextToken_97 (by decide) ?_
        refine mp_value S hK hP hS dX13_nextToken_98 (fun H locs hP hS => ?_)
        rw [XT_7] at hP
        have lp_101 : ∀ (j : Nat) (q : Nat) (H : Heap) (locs : List Loc) (ls : Array Slot), (tp < q + j) → (q_wl (mB x tp) j q = q_wl (mB x tp) 121 k) → (q ≤ tp) → mW t (r) ((XT x 1 (nI k) (nI q) 0 (x 9 8))) H → va_S (mA t) s.heap H locs → lv_has ls 2 [(0, .ref (t.2.1 0)), (1, .int (mB x tp k))] → W p l e (rmF 1) s m ([.ref (t.2.1 0)] : List Value).toArray below meth c H locs 0 0 (MQ below (kW none (mW t (r) (QX x tp k0)) (mA t)) ([.ref (t.2.1 0)] : List Value).toArray s 0 0 (mA t)) (F0 m 101 ls []) := by
          intro j
          induction j with
          | zero =>
            intro q H locs ls hkj he hq hP hS hl
            refine lv_aload_n hx hb dX13_nextToken_101 rfl (lv_at hl 0 rfl) ?_
            refine mg_token S hK hP dX13_nextToken_102 ?_
            refine kb_nat (y := 1) rfl ?_
            refine lv_iconst (v := 1) hx hb dX13_nextToken_105 (by decide) ?_
            refine kb_ne_n (tgt := 136) (a := 1) (b := 1) S rfl rfl (by omega) (by omega) dX13_nextToken_106 (by decide) (fun c_106 => ?_) (fun c_106 => ?_)
            · exact absurd c_106 (by decide)
            · skip
              refine lv_aload_n hx hb dX13_nextToken_109 rfl (lv_at hl 0 rfl) ?_
              refine lv_aload_n hx hb dX13_nextToken_110 rfl (lv_at hl 0 rfl) ?_
              refine mg_to S hK hP dX13_nextToken_111 ?_
              refine kb_nat (y := (nI q)) rfl ?_
              refine c_byteAt S hK hP (rm_ok (Nat.le_of_ble_eq_true rfl)) hl.1 (q) (tp) htp (by omega) (by omega) rfl (Nat.le_of_ble_eq_true rfl) dX13_nextToken_114 ?_
              refine c_isLetter S (rm_ok (Nat.le_of_ble_eq_true rfl)) hl.1 (Nat.le_of_ble_eq_true rfl) dX13_nextToken_117 ?_
              refine kb_ifeq (tgt := 136) S dX13_nextToken_120 (by decide) (fun c_120 => ?_) (fun c_120 => ?_)
              · skip
                have hres : q = q_wl (mB x tp) 121 k := he
                refine lv_aload_n hx hb dX13_nextToken_136 rfl (lv_at hl 0 rfl) ?_
                refine mg_token S hK hP dX13_nextToken_137 ?_
                refine kb_nat (y := 1) rfl ?_
                refine lv_iconst (v := 2) hx hb dX13_nextToken_140 (by decide) ?_
                refine kb_ne_n (tgt := 211) (a := 1) (b := 2) S rfl rfl (by omega) (by omega) dX13_nextToken_141 (by decide) (fun c_141 => ?_) (fun c_141 => ?_)
                · skip
                  refine lv_aload_n hx hb dX13_nextToken_211 rfl (lv_at hl 0 rfl) ?_
                  refine lv_dup hx hb dX13_nextToken_212 rfl ?_
                  refine mg_to S hK hP dX13_nextToken_213 ?_
                  refine kb_nat (y := (nI q)) rfl ?_
                  refine lv_aload_n hx hb dX13_nextToken_216 rfl (lv_at hl 0 rfl) ?_
                  refine mg_token S hK hP dX13_nextToken_217 ?_
                  refine kb_nat (y := 1) rfl ?_
                  refine lv_iconst (v := 2) hx hb dX13_nextToken_220 (by decide) ?_
                  refine kb_le_n (tgt := 228) (a := 1) (b := 2) S rfl rfl (by omega) (by omega) dX13_nextToken_221 (by decide) (fun c_221 => ?_) (fun c_221 => ?_)
                  · skip
                    refine lv_iconst (v := 0) hx hb dX13_nextToken_228 (by decide) ?_
                    refine lv_iadd hx hb dX13_nextToken_229 ?_
                    refine kb_nat (y := nI ((q + 0))) (nn_add rfl rfl) ?_
                    refine mp_to S hK hP hS dX13_nextToken_230 (fun H locs hP hS => ?_)
                    rw [XT_6] at hP
                    exact kk_vretW S hr hlk hS (by unfold QX; rw [← hF]; have hq : q_tok (mB x tp k) = 1 := qx_1 c_53 c_64; unfold q_to q_val; rw [hq]; show mW t r (XT x (nI 1) (nI k) (nI (q_wl (mB x tp) 121 k)) 0 (x 9 8)) H; rw [← hres]; exact hP) dX13_nextToken_233
                  · exact absurd c_221 (by decide)
                · exact absurd c_141 (by decide)
              · exact absurd (show ltr (mB x tp q) from c_120) (by rw [mB_out (by omega)]; decide)
          | succ j ih =>
            intro q H locs ls hkj he hq hP hS hl
            have ih_101 := ih
            refine lv_aload_n hx hb dX13_nextToken_101 rfl (lv_at hl 0 rfl) ?_
            refine mg_token S hK hP dX13_nextToken_102 ?_
            refine kb_nat (y := 1) rfl ?_
            refine lv_iconst (v := 1) hx hb dX13_nextToken_105 (by decide) ?_
            refine kb_ne_n (tgt := 136) (a := 1) (b := 1) S rfl rfl (by omega) (by omega) dX13_nextToken_106 (by decide) (fun c_106 => ?_) (fun c_106 => ?_)
            · exact absurd c_106 (by decide)
            · skip
              refine lv_aload_n hx hb dX13_nextToken_109 rfl (lv_at hl 0 rfl) ?_
              refine lv_aload_n hx hb dX13_nextToken_110 rfl (lv_at hl 0 rfl) ?_
              refine mg_to S hK hP dX13_nextToken_111 ?_
              refine kb_nat (y := (nI q)) rfl ?_
              refine c_byteAt S hK hP (rm_ok (Nat.le_of_ble_eq_true rfl)) hl.1 (q) (tp) htp (by omega) (by omega) rfl (Nat.le_of_ble_eq_true rfl) dX13_nextToken_114 ?_
              refine c_isLetter S (rm_ok (Nat.le_of_ble_eq_true rfl)) hl.1 (Nat.le_of_ble_eq_true rfl) dX13_nextToken_117 ?_
              refine kb_ifeq (tgt := 136) S dX13_nextToken_120 (by decide) (fun c_120 => ?_) (fun c_120 => ?_)
              · skip
                have hres : q = q_wl (mB x tp) 121 k := by (have h := he; rw [q_wl, if_neg (show ¬ ltr (mB x tp q) from c_120)] at h; exact h)
                refine lv_aload_n hx hb dX13_nextToken_136 rfl (lv_at hl 0 rfl) ?_
                refine mg_token S hK hP dX13_nextToken_137 ?_
                refine kb_nat (y := 1) rfl ?_
                refine lv_iconst (v := 2) hx hb dX13_nextToken_140 (by decide) ?_
                refine kb_ne_n (tgt := 211) (a := 1) (b := 2) S rfl rfl (by omega) (by omega) dX13_nextToken_141 (by decide) (fun c_141 => ?_) (fun c_141 => ?_)
                · skip
                  refine lv_aload_n hx hb dX13_nextToken_211 rfl (lv_at hl 0 rfl) ?_
                  refine lv_dup hx hb dX13_nextToken_212 rfl ?_
                  refine mg_to S hK hP dX13_nextToken_213 ?_
                  refine kb_nat (y := (nI q)) rfl ?_
                  refine lv_aload_n hx hb dX13_nextToken_216 rfl (lv_at hl 0 rfl) ?_
                  refine mg_token S hK hP dX13_nextToken_217 ?_
                  refine kb_nat (y := 1) rfl ?_
                  refine lv_iconst (v := 2) hx hb dX13_nextToken_220 (by decide) ?_
                  refine kb_le_n (tgt := 228) (a := 1) (b := 2) S rfl rfl (by omega) (by omega) dX13_nextToken_221 (by decide) (fun c_221 => ?_) (fun c_221 => ?_)
                  · skip
                    refine lv_iconst (v := 0) hx hb dX13_nextToken_228 (by decide) ?_
                    refine lv_iadd hx hb dX13_nextToken_229 ?_
                    refine kb_nat (y := nI ((q + 0))) (nn_add rfl rfl) ?_
                    refine mp_to S hK hP hS dX13_nextToken_230 (fun H locs hP hS => ?_)
                    rw [XT_6] at hP
                    exact kk_vretW S hr hlk hS (by unfold QX; rw [← hF]; have hq : q_tok (mB x tp k) = 1 := qx_1 c_53 c_64; unfold q_to q_val; rw [hq]; show mW t r (XT x (nI 1) (nI k) (nI (q_wl (mB x tp) 121 k)) 0 (x 9 8)) H; rw [← hres]; exact hP) dX13_nextToken_233
                  · exact absurd c_221 (by decide)
                · exact absurd c_141 (by decide)
              · skip
                refine lv_aload_n hx hb dX13_nextToken_123 rfl (lv_at hl 0 rfl) ?_
                refine lv_dup hx hb dX13_nextToken_124 rfl ?_
                refine mg_to S hK hP dX13_nextToken_125 ?_
                refine kb_nat (y := (nI q)) rfl ?_
                refine lv_iconst (v := 1) hx hb dX13_nextToken_128 (by decide) ?_
                refine lv_iadd hx hb dX13_nextToken_129 ?_
                refine kb_nat (y := nI ((q + 1))) (nn_add rfl rfl) ?_
                refine mp_to S hK hP hS dX13_nextToken_130 (fun H locs hP hS => ?_)
                rw [XT_6] at hP
                refine lv_goto (tgt := 101) hx hb dX13_nextToken_133 (by decide) ?_
                exact ih_101  (q + 1) _ _ ls (by omega) (by have h := he; rw [q_wl, if_pos (show ltr (mB x tp q) from c_120)] at h; exact h) (mB_lt (Int32.le_trans (by decide) c_120.1)) hP hS (lv_sub hl [0, 1] rfl)
        exact lp_101 121 k _ _ ls (by omega) (rfl) (hk) hP hS (lv_sub hl [1, 0] rfl)
    · skip
      refine lv_iconst (v := 0) hx hb dX13_nextToken_56 (by decide) ?_
      refine lv_goto (tgt := 93) hx hb dX13_nextToken_57 (by decide) ?_
      refine mp_token S hK hP hS dX13_nextToken_93 (fun H locs hP hS => ?_)
      rw [XT_4] at hP
      refine lv_aload_n hx hb dX13_nextToken_96 rfl (lv_at hl 1 rfl) ?_
      refine lv_iconst (v := 0) hx hb dX13_nextToken_97 (by decide) ?_
      refine mp_value S hK hP hS dX13_nextToken_98 (fun H locs hP hS => ?_)
      rw [XT_7] at hP
      refine lv_aload_n hx hb dX13_nextToken_101 rfl (lv_at hl 1 rfl) ?_
      refine mg_token S hK hP dX13_nextToken_102 ?_
      refine kb_nat (y := 0) rfl ?_
      refine lv_iconst (v := 1) hx hb dX13_nextToken_105 (by decide) ?_
      refine kb_ne_n (tgt := 136) (a := 0) (b := 1) S rfl rfl (by omega) (by omega) dX13_nextToken_106 (by decide) (fun c_106 => ?_) (fun c_106 => ?_)
      · skip
        refine lv_aload_n hx hb dX13_nextToken_136 rfl (lv_at hl 1 rfl) ?_
        refine mg_token S hK hP dX13_nextToken_137 ?_
        refine kb_nat (y := 0) rfl ?_
        refine lv_iconst (v := 2) hx hb dX13_nextToken_140 (by decide) ?_
        refine kb_ne_n (tgt := 211) (a := 0) (b := 2) S rfl rfl (by omega) (by omega) dX13_nextToken_141 (by decide) (fun c_141 => ?_) (fun c_141 => ?_)
        · skip
          refine lv_aload_n hx hb dX13_nextToken_211 rfl (lv_at hl 1 rfl) ?_
          refine lv_dup hx hb dX13_nextToken_212 rfl ?_
          refine mg_to S hK hP dX13_nextToken_213 ?_
          refine kb_nat (y := (nI k)) rfl ?_
          refine lv_aload_n hx hb dX13_nextToken_216 rfl (lv_at hl 1 rfl) ?_
          refine mg_token S hK hP dX13_nextToken_217 ?_
          refine kb_nat (y := 0) rfl ?_
          refine lv_iconst (v := 2) hx hb dX13_nextToken_220 (by decide) ?_
          refine kb_le_n (tgt := 228) (a := 0) (b := 2) S rfl rfl (by omega) (by omega) dX13_nextToken_221 (by decide) (fun c_221 => ?_) (fun c_221 => ?_)
          · skip
            refine lv_iconst (v := 0) hx hb dX13_nextToken_228 (by decide) ?_
            refine lv_iadd hx hb dX13_nextToken_229 ?_
            refine kb_nat (y := nI ((k + 0))) (nn_add rfl rfl) ?_
            refine mp_to S hK hP hS dX13_nextToken_230 (fun H locs hP hS => ?_)
            rw [XT_6] at hP
            exact kk_vretW S hr hlk hS (by unfold QX; rw [← hF]; have hq : q_tok (mB x tp k) = 0 := qx_0 c_53; unfold q_to q_val; rw [hq]; exact hP) dX13_nextToken_233
          · exact absurd c_221 (by decide)
        · exact absurd c_141 (by decide)
      · exact absurd c_106 (by decide)
  have lp_8 : ∀ (j : Nat) (k : Nat) (H : Heap) (locs : List Loc) (ls : Array Slot), (tp < k + j) → (q_sk (mB x tp) j k = (q_sk (mB x tp) 121 k0)) → (k ≤ tp) → mW t (r) ((XT x (x 9 4) (nI k) (x 9 6) (x 9 7) (x 9 8))) H → va_S (mA t) s.heap H locs → lv_has ls 2 [(0, .ref (t.2.1 0))] → W p l e (rmF 1) s m ([.ref (t.2.1 0)] : List Value).toArray below meth c H locs 0 0 (MQ below (kW none (mW t (r) (QX x tp k0)) (mA t)) ([.ref (t.2.1 0)] : List Value).toArray s 0 0 (mA t)) (F0 m 8 ls []) := by
    intro j
    induction j with
    | zero =>
      intro k H locs ls hkj he hk hP hS hl
      refine lv_aload_n hx hb dX13_nextToken_8 rfl (lv_at hl 0 rfl) ?_
      refine lv_aload_n hx hb dX13_nextToken_9 rfl (lv_at hl 0 rfl) ?_
      refine mg_from S hK hP dX13_nextToken_10 ?_
      refine kb_nat (y := (nI k)) rfl ?_
      refine c_byteAt S hK hP (rm_ok (Nat.le_of_ble_eq_true rfl)) hl.1 (k) (tp) htp (by omega) (by omega) rfl (Nat.le_of_ble_eq_true rfl) dX13_nextToken_13 ?_
      refine lv_bipush (v := 32) hx hb dX13_nextToken_16 (by decide) ?_
      refine lv_icmp_ne (tgt := 34) hx hb dX13_nextToken_18 (by decide) (fun c_18 => ?_) (fun c_18 => ?_)
      · skip
        exact cut_34 k _ _ ls (he) (hk) hP hS (lv_sub hl [0] rfl)
      · exact absurd (show mB x tp k = 32 from c_18) (by rw [mB_out (by omega)]; decide)
    | succ j ih =>
      intro k H locs ls hkj he hk hP hS hl
      have ih_8 := ih
      refine lv_aload_n hx hb dX13_nextToken_8 rfl (lv_at hl 0 rfl) ?_
      refine lv_aload_n hx hb dX13_nextToken_9 rfl (lv_at hl 0 rfl) ?_
      refine mg_from S hK hP dX13_nextToken_10 ?_
      refine kb_nat (y := (nI k)) rfl ?_
      refine c_byteAt S hK hP (rm_ok (Nat.le_of_ble_eq_true rfl)) hl.1 (k) (tp) htp (by omega) (by omega) rfl (Nat.le_of_ble_eq_true rfl) dX13_nextToken_13 ?_
      refine lv_bipush (v := 32) hx hb dX13_nextToken_16 (by decide) ?_
      refine lv_icmp_ne (tgt := 34) hx hb dX13_nextToken_18 (by decide) (fun c_18 => ?_) (fun c_18 => ?_)
      · skip
        exact cut_34 k _ _ ls (by have h := he; rw [q_sk, if_neg (show ¬ mB x tp k = 32 from c_18)] at h; exact h) (hk) hP hS (lv_sub hl [0] rfl)
      · skip
        refine lv_aload_n hx hb dX13_nextToken_21 rfl (lv_at hl 0 rfl) ?_
        refine lv_dup hx hb dX13_nextToken_22 rfl ?_
        refine mg_from S hK hP dX13_nextToken_23 ?_
        refine kb_nat (y := (nI k)) rfl ?_
        refine lv_iconst (v := 1) hx hb dX13_nextToken_26 (by decide) ?_
        refine lv_iadd hx hb dX13_nextToken_27 ?_
        refine kb_nat (y := nI ((k + 1))) (nn_add rfl rfl) ?_
        refine mp_from S hK hP hS dX13_nextToken_28 (fun H locs hP hS => ?_)
        rw [XT_5] at hP
        refine lv_goto (tgt := 8) hx hb dX13_nextToken_31 (by decide) ?_
        exact ih_8  (k + 1) _ _ ls (by omega) (by have h := he; rw [q_sk, if_pos (show mB x tp k = 32 from c_18)] at h; exact h) (mB_lt (by rw [show mB x tp k = 32 from c_18]; decide)) hP hS (lv_sub hl [0] rfl)
  exact lp_8 121 k0 _ _ ls (by omega) (rfl) (hk0) hP hS (lv_sub hl [0] rfl)
section MC
variable {p : Program} {l : Launch} {e : Env} {R : Room} {s : State} {m : MethodId} {args : Array Value} {below : List Frame} {meth : Method} {c : Code} {H H0 : Heap} {locs : List Loc} {cells slots : Nat} {Q : State → Prop}
variable {cc : ByteArray} {pc nL : Nat} {ls : Array Slot} {rest : List Value} {t : MT} {r : Rw} {x : Nat → Rw}
theorem c_nextToken (S : CallFix p m c cc nL s args lw_all RX13) (hK : mK t s) (hP : mW t r x H) (hS : va_S (mA t) H0 H locs) (hR : kRm R 2 cells slots) (hsz : ls.size = nL) (tp : Nat) (k0 : Nat) (htp : x 9 1 = nI tp) (h120 : tp ≤ 120) (hto : x 9 6 = nI k0) (hk0 : k0 ≤ tp) (hrest : (rest.map fun v => v.category).sum ≤ 8) (hdg : decode cc pc = .ok (.invokevirtual 256, 3)) (kk : ∀ (H1 : Heap) (locs1 : List Loc), mW t (r) (QX x tp k0) H1 → va_S (mA t) H0 H1 locs1 → W p l e R s m args below meth c H1 locs1 cells slots Q (F0 m (pc + 3) ls (rest))) : W p l e R s m args below meth c H locs cells slots Q (F0 m pc ls (.ref (t.2.1 0) :: rest)) := by
  exact kk_Wv (W.runV (As := []) (rest := rest) S (k_nextToken l t r x tp k0 htp h120 hto hk0) (cwV 0 S.2.2.2.2 (lw_V q1591 q1593 qs86 q117 q1594) rfl rfl rfl (by decide +kernel) ⟨hR.1, by have := hR.2.1; show 8 + (2 + 11) + 38 * 1 ≤ R.locals; omega⟩) ⟨m_blind, m_recv hK hP, m_pre hK hP⟩ rfl rfl hsz rfl (lv_room hrest) hdg ⟨hR.2.2.1, hR.2.2.2⟩) hS (fun _ h => h) (fun _ h => h) (fun H1 locs1 hB _ _ hS => kk H1 locs1 hB hS)
end MC

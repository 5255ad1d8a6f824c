set_option maxHeartbeats 4000000 in
set_option maxRecDepth 100000 in
theorem k_perhaps (l : Launch) (t : MT) (r : Rw) (x : Nat → Rw) (PP : Prop) [Decidable PP] (pl : Nat) (w : Int32) (tp : Nat) (hpi : PI tp x) (hpl : pl < 82) : Met l yX13_perhaps (ws_ yX13_perhaps cX13_perhaps 4 (some .boolean)) (rmF 2) (va_Pc [.ref (t.2.1 0), .int (b2i PP), .int (nI pl), .int w] (fun U => mK t U ∧ mW t r x U.heap)) (kW (some (.int (b2i ((m_perh tp (decide PP) pl w r x).1 = true)))) (mW t ((m_perh tp (decide PP) pl w r x).2.1) ((m_perh tp (decide PP) pl w r x).2.2)) (mA t)) 0 0 (mA t) := by
  refine kk_start (by decide) (Nat.le_of_ble_eq_true rfl) ?_
  intro p e s m below meth c S hr hlk hin hB ls hl
  obtain ⟨hK, hP⟩ := hB
  have hx := S.1
  have hb := S.2.1
  have hown : s.vm.findClass RX13 = some m.cls := S.2.2.2.1
  have hts := S.2.2.2.2
  have hS : va_S (mA t) s.heap s.heap [] := va_S.rf
  have hl : lv_has ls 4 [(0, .ref (t.2.1 0)), (1, .int ((b2i PP))), (2, .int ((nI pl))), (3, .int (w))] := hl
  refine lv_iload_n hx hb dX13_perhaps_0 rfl (lv_at hl 1 rfl) ?_
  refine kb_ifne (tgt := 6) S dX13_perhaps_1 (by decide) (fun c_1 => ?_) (fun c_1 => ?_)
  · skip
    refine lv_aload_n hx hb dX13_perhaps_6 rfl (lv_at hl 0 rfl) ?_
    refine c_nx S hK hP hS (rm_ok (Nat.le_of_ble_eq_true rfl)) hl.1 hpi (Nat.le_of_ble_eq_true rfl) dX13_perhaps_7 (fun H locs hP hS => ?_)
    refine lv_aload_n hx hb dX13_perhaps_10 rfl (lv_at hl 0 rfl) ?_
    refine lv_iconst (v := 0) hx hb dX13_perhaps_11 (by decide) ?_
    refine lv_iload_n hx hb dX13_perhaps_12 rfl (lv_at hl 3 rfl) ?_
    refine c_isNumber S hK hP hS (rm_ok (Nat.le_of_ble_eq_true rfl)) hl.1 (Nat.le_of_ble_eq_true rfl) dX13_perhaps_13 (fun H locs hP hS => ?_)
    refine kb_ifne (tgt := 21) S dX13_perhaps_16 (by decide) (fun c_16 => ?_) (fun c_16 => ?_)
    · skip
      rw [if_pos c_16] at hP
      refine lv_aload_n hx hb dX13_perhaps_21 rfl (lv_at hl 0 rfl) ?_
      refine mg_s S hK hP dX13_perhaps_22 ?_
      refine lv_iload_n hx hb dX13_perhaps_25 rfl (lv_at hl 2 rfl) ?_
      refine lv_aload_n hx hb dX13_perhaps_26 rfl (lv_at hl 0 rfl) ?_
      refine mg_value S hK hP dX13_perhaps_27 ?_
      refine mk_sts S hK hP hS (pl) (by omega) rfl dX13_perhaps_30 (fun H locs hP hS => ?_)
      refine lv_aload_n hx hb dX13_perhaps_31 rfl (lv_at hl 0 rfl) ?_
      refine c_nx S hK hP hS (rm_ok (Nat.le_of_ble_eq_true rfl)) hl.1 (hpi).next (Nat.le_of_ble_eq_true rfl) dX13_perhaps_32 (fun H locs hP hS => ?_)
      refine lv_iconst (v := 1) hx hb dX13_perhaps_35 (by decide) ?_
      exact kk_ztW S hr hlk hS (by simp only [m_perh, decide_eq_true c_1]; rw [if_pos c_16]; exact hP) (by simp only [m_perh, decide_eq_true c_1]; rw [if_pos c_16]) dX13_perhaps_36
    · skip
      rw [if_neg c_16] at hP
      refine lv_iconst (v := 0) hx hb dX13_perhaps_19 (by decide) ?_
      exact kk_zfW S hr hlk hS (by simp only [m_perh, decide_eq_true c_1]; rw [if_neg c_16]; exact hP) (by simp only [m_perh, decide_eq_true c_1]; rw [if_neg c_16]; exact Bool.false_ne_true) dX13_perhaps_20
  · skip
    refine lv_iconst (v := 1) hx hb dX13_perhaps_4 (by decide) ?_
    exact kk_ztW S hr hlk hS (by simp only [m_perh, decide_eq_false c_1]; exact hP) (by simp only [m_perh, decide_eq_false c_1]) dX13_perhaps_5
section MC
variable {p : Program} {l : Launch} {e : Env} {R : Room} {s : State} {m : MethodId} {args : Array Value} {below : List Frame} {meth : Method} {c : Code} {H H0 : Heap} {locs : List Loc} {cells slots : Nat} {Q : State → Prop}
variable {cc : ByteArray} {pc nL : Nat} {ls : Array Slot} {rest : List Value} {t : MT} {r : Rw} {x : Nat → Rw}
theorem c_perhaps (S : CallFix p m c cc nL s args lw_all RX13) (hK : mK t s) (hP : mW t r x H) (hS : va_S (mA t) H0 H locs) (hR : kRm R 3 cells slots) (hsz : ls.size = nL) {PP : Prop} [Decidable PP] (pl : Nat) {w : Int32} (tp : Nat) (hpi : PI tp x) (hpl : pl < 82) {i1 : Int32} (e1 : i1 = nI pl) (hrest : (rest.map fun v => v.category).sum ≤ 8) (hdg : decode cc pc = .ok (.invokevirtual 262, 3)) (kk : ∀ (H1 : Heap) (locs1 : List Loc), mW t ((m_perh tp (decide PP) pl w r x).2.1) ((m_perh tp (decide PP) pl w r x).2.2) H1 → va_S (mA t) H0 H1 locs1 → W p l e R s m args below meth c H1 locs1 cells slots Q (F0 m (pc + 3) ls (.int (b2i ((m_perh tp (decide PP) pl w r x).1 = true)) :: rest))) : W p l e R s m args below meth c H locs cells slots Q (F0 m pc ls (.int w :: .int i1 :: .int (b2i PP) :: .ref (t.2.1 0) :: rest)) := by
  subst e1
  exact kk_Wi (W.runV (As := [.int (b2i PP), .int (nI pl), .int w]) (rest := rest) S (k_perhaps l t r x PP pl w tp hpi hpl) (cwV 3 S.2.2.2.2 (lw_V q1641 q1643 qs97 q117 q1644) rfl rfl rfl (by decide +kernel) ⟨hR.1, by have := hR.2.1; show 8 + (4 + 11) + 38 * 2 ≤ R.locals; omega⟩) ⟨m_blind, m_recv hK hP, m_pre hK hP⟩ rfl rfl hsz rfl (lv_room hrest) hdg ⟨hR.2.2.1, hR.2.2.2⟩) hS (fun _ h => h) (fun _ h => h) (fun H1 locs1 hB _ _ hS => kk H1 locs1 hB hS)
theorem c_perhapsG (S : CallFix p m c cc nL s args lw_all RX13) (hK : mK t s) (hP : mW t r x H) (hS : va_S (mA t) H0 H locs) (hR : kRm R 3 cells slots) (hsz : ls.size = nL) {PP : Prop} [Decidable PP] (pl : Nat) {w : Int32} (tp : Nat) (hpi : PI tp x) (hpl : pl < 82) {i1 : Int32} (e1 : i1 = nI pl) (hrest : (rest.map fun v => v.category).sum ≤ 8) (hdg : decode cc pc = .ok (.invokevirtual 262, 3)) (kk : ∀ (s1 : Ps), m_perh tp (decide PP) pl w r x = s1 → ∀ (H1 : Heap) (locs1 : List Loc), mW t s1.2.1 s1.2.2 H1 → va_S (mA t) H0 H1 locs1 → W p l e R s m args below meth c H1 locs1 cells slots Q (F0 m (pc + 3) ls (.int (b2i (s1.1 = true)) :: rest))) : W p l e R s m args below meth c H locs cells slots Q (F0 m pc ls (.int w :: .int i1 :: .int (b2i PP) :: .ref (t.2.1 0) :: rest)) := by
  exact c_perhaps S hK hP hS hR hsz pl tp hpi hpl e1 hrest hdg (fun H1 locs1 hP hS => kk _ rfl H1 locs1 hP hS)
end MC
set_option maxHeartbeats 4000000 in
set_option maxRecDepth 100000 in
theorem k_cellarHere (l : Launch) (t : MT) (r : Rw) (x : Nat → Rw) (pl : Nat) (w : Int32) (tp : Nat) (hpi : PI tp x) (hpl : pl < 70) : Met l yX13_cellarHere (ws_ yX13_cellarHere cX13_cellarHere 3 (some .boolean)) (rmF 3) (va_Pc [.ref (t.2.1 0), .int (nI pl), .int w] (fun U => mK t U ∧ mW t r x U.heap)) (kW (some (.int (b2i ((m_cellar tp pl w r x).1 = true)))) (mW t ((m_cellar tp pl w r x).2.1) ((m_cellar tp pl w r x).2.2)) (mA t)) 0 0 (mA t) := by
  refine kk_start (by decide) (Nat.le_of_ble_eq_true rfl) ?_
  intro p e s m below meth c S hr hlk hin hB ls hl
  obtain ⟨hK, hP⟩ := hB
  have hx := S.1
  have hb := S.2.1
  have hown : s.vm.findClass RX13 = some m.cls := S.2.2.2.1
  have hts := S.2.2.2.2
  have hS : va_S (mA t) s.heap s.heap [] := va_S.rf
  have hl : lv_has ls 3 [(0, .ref (t.2.1 0)), (1, .int ((nI pl))), (2, .int (w))] := hl
  refine lv_aload_n hx hb dX13_cellarHere_0 rfl (lv_at hl 0 rfl) ?_
  refine c_nx S hK hP hS (rm_ok (Nat.le_of_ble_eq_true rfl)) hl.1 hpi (Nat.le_of_ble_eq_true rfl) dX13_cellarHere_1 (fun H locs hP hS => ?_)
  refine lv_aload_n hx hb dX13_cellarHere_4 rfl (lv_at hl 0 rfl) ?_
  refine lv_iconst (v := 0) hx hb dX13_cellarHere_5 (by decide) ?_
  refine lv_iconst (v := 5) hx hb dX13_cellarHere_6 (by decide) ?_
  refine c_isNumber S hK hP hS (rm_ok (Nat.le_of_ble_eq_true rfl)) hl.1 (Nat.le_of_ble_eq_true rfl) dX13_cellarHere_7 (fun H locs hP hS => ?_)
  refine kb_ifeq (tgt := 32) S dX13_cellarHere_10 (by decide) (fun c_10 => ?_) (fun c_10 => ?_)
  · skip
    rw [if_neg c_10] at hP
    have hsp : m_cellar tp pl w r x = (false, r, failx (q_next tp x)) := by unfold m_cellar; rw [if_neg c_10]
    refine lv_iconst (v := 0) hx hb dX13_cellarHere_32 (by decide) ?_
    exact kk_zfW S hr hlk hS (by rw [hsp]; exact hP) (by rw [hsp]; exact Bool.false_ne_true) dX13_cellarHere_33
  · skip
    rw [if_pos c_10] at hP
    obtain ⟨v_, hv_, hve⟩ := nat_of_le (n := 5) (N := 5) rfl (by omega) c_10.2
    have hcl_v_ : (q_next tp x 9 7).toNatClampNeg = v_ := by rw [hve]; exact nI_clamp (by omega)
    have hsp : m_cellar tp pl w r x = m_perh tp true (pl + v_) w r (q_next tp x) := by unfold m_cellar; rw [if_pos c_10, hcl_v_]
    refine lv_aload_n hx hb dX13_cellarHere_13 rfl (lv_at hl 0 rfl) ?_
    refine lv_iconst (v := 1) hx hb dX13_cellarHere_14 (by decide) ?_
    refine kb_nat (y := b2i True) rfl ?_
    refine lv_iload_n hx hb dX13_cellarHere_15 rfl (lv_at hl 1 rfl) ?_
    refine lv_aload_n hx hb dX13_cellarHere_16 rfl (lv_at hl 0 rfl) ?_
    refine mg_value S hK hP dX13_cellarHere_17 ?_
    refine lv_iadd hx hb dX13_cellarHere_20 ?_
    refine lv_iload_n hx hb dX13_cellarHere_21 rfl (lv_at hl 2 rfl) ?_
    refine c_perhapsG S hK hP hS (rm_ok (Nat.le_of_ble_eq_true rfl)) hl.1 ((pl + v_)) (tp) hpi.next (by omega) (nn_add rfl hve) (Nat.le_of_ble_eq_true rfl) dX13_cellarHere_22 (fun s_1 hs_1 H locs hP hS => ?_)
    refine kb_ifeq (tgt := 32) S dX13_cellarHere_25 (by decide) (fun c_25 => ?_) (fun c_25 => ?_)
    · skip
      refine lv_iconst (v := 0) hx hb dX13_cellarHere_32 (by decide) ?_
      exact kk_zfW S hr hlk hS (by rw [hsp, show m_perh tp true (pl + v_) w r (q_next tp x) = s_1 from hs_1]; exact hP) (by rw [hsp]; exact (show m_perh tp true (pl + v_) w r (q_next tp x) = s_1 from hs_1) ▸ c_25) dX13_cellarHere_33
    · skip
      refine lv_iconst (v := 1) hx hb dX13_cellarHere_28 (by decide) ?_
      refine lv_goto (tgt := 33) hx hb dX13_cellarHere_29 (by decide) ?_
      exact kk_ztW S hr hlk hS (by rw [hsp, show m_perh tp true (pl + v_) w r (q_next tp x) = s_1 from hs_1]; exact hP) (by rw [hsp]; exact (show m_perh tp true (pl + v_) w r (q_next tp x) = s_1 from hs_1) ▸ c_25) dX13_cellarHere_33
section MC
variable {p : Program} {l : Launch} {e : Env} {R : Room} {s : State} {m : MethodId} {args : Array Value} {below : List Frame} {meth : Method} {c : Code} {H H0 : Heap} {locs : List Loc} {cells slots : Nat} {Q : State → Prop}
variable {cc : ByteArray} {pc nL : Nat} {ls : Array Slot} {rest : List Value} {t : MT} {r : Rw} {x : Nat → Rw}
theorem c_cellarHere (S : CallFix p m c cc nL s args lw_all RX13) (hK : mK t s) (hP : mW t r x H) (hS : va_S (mA t) H0 H locs) (hR : kRm R 4 cells slots) (hsz : ls.size = nL) (pl : Nat) {w : Int32} (tp : Nat) (hpi : PI tp x) (hpl : pl < 70) {i0 : Int32} (e0 : i0 = nI pl) (hrest : (rest.map fun v => v.category).sum ≤ 8) (hdg : decode cc pc = .ok (.invokevirtual 272, 3)) (kk : ∀ (H1 : Heap) (locs1 : List Loc), mW t ((m_cellar tp pl w r x).2.1) ((m_cellar tp pl w r x).2.2) H1 → va_S (mA t) H0 H1 locs1 → W p l e R s m args below meth c H1 locs1 cells slots Q (F0 m (pc + 3) ls (.int (b2i ((m_cellar tp pl w r x).1 = true)) :: rest))) : W p l e R s m args below meth c H locs cells slots Q (F0 m pc ls (.int w :: .int i0 :: .ref (t.2.1 0) :: rest)) := by
  subst e0
  exact kk_Wi (W.runV (As := [.int (nI pl), .int w]) (rest := rest) S (k_cellarHere l t r x pl w tp hpi hpl) (cwV 2 S.2.2.2.2 (lw_V q1649 q1651 qs99 q117 q1652) rfl rfl rfl (by decide +kernel) ⟨hR.1, by have := hR.2.1; show 8 + (3 + 11) + 38 * 3 ≤ R.locals; omega⟩) ⟨m_blind, m_recv hK hP, m_pre hK hP⟩ rfl rfl hsz rfl (lv_room hrest) hdg ⟨hR.2.2.1, hR.2.2.2⟩) hS (fun _ h => h) (fun _ h => h) (fun H1 locs1 hB _ _ hS => kk H1 locs1 hB hS)
theorem c_cellarHereG (S : CallFix p m c cc nL s args lw_all RX13) (hK : mK t s) (hP : mW t r x H) (hS : va_S (mA t) H0 H locs) (hR : kRm R 4 cells slots) (hsz : ls.size = nL) (pl : Nat) {w : Int32} (tp : Nat) (hpi : PI tp x) (hpl : pl < 70) {i0 : Int32} (e0 : i0 = nI pl) (hrest : (rest.map fun v => v.category).sum ≤ 8) (hdg : decode cc pc = .ok (.invokevirtual 272, 3)) (kk : ∀ (s1 : Ps), m_cellar tp pl w r x = s1 → ∀ (H1 : Heap) (locs1 : List Loc), mW t s1.2.1 s1.2.2 H1 → va_S (mA t) H0 H1 locs1 → W p l e R s m args below meth c H1 locs1 cells slots Q (F0 m (pc + 3) ls (.int (b2i (s1.1 = true)) :: rest))) : W p l e R s m args below meth c H locs cells slots Q (F0 m pc ls (.int w :: .int i0 :: .ref (t.2.1 0) :: rest)) := by
  exact c_cellarHere S hK hP hS hR hsz pl tp hpi hpl e0 hrest hdg (fun H1 locs1 hP hS => kk _ rfl H1 locs1 hP hS)
end MC
set_option maxHeartbeats 4000000 in
set_option maxRecDepth 100000 in
theorem k_caskHere (l : Launch) (t : MT) (r : Rw) (x : Nat → Rw) (i : Int32) (tp : Nat) (b : Nat) (hpi : PI tp x) (hV : pV b r) : Met l yX13_caskHere (ws_ yX13_caskHere cX13_caskHere 3 (some .boolean)) (rmF 3) (va_Pc [.ref (t.2.1 0), .int i] (fun U => mK t U ∧ mW t r x U.heap)) (kW (some (.int (b2i ((m_cask tp i r x).1 = true)))) (mW t ((m_cask tp i r x).2.1) ((m_cask tp i r x).2.2)) (mA t)) 0 0 (mA t) := by
  refine kk_start (by decide) (Nat.le_of_ble_eq_true rfl) ?_
  intro p e s m below meth c S hr hlk hin hB ls hl
  obtain ⟨hK, hP⟩ := hB
  have hx := S.1
  have hb := S.2.1
  have hown : s.vm.findClass RX13 = some m.cls := S.2.2.2.1
  have hts := S.2.2.2.2
  have hS : va_S (mA t) s.heap s.heap [] := va_S.rf
  have hl : lv_has ls 3 [(0, .ref (t.2.1 0)), (1, .int (i))] := hl
  have hn := hV.n.1
  have hn8 := hV.n.2
  have h120 := hpi.2.1
  have hfx := hpi.next.fr.2
  refine lv_aload_n hx hb dX13_caskHere_0 rfl (lv_at hl 0 rfl) ?_
  refine mg_s S hK hP dX13_caskHere_1 ?_
  refine lv_iconst (v := 0) hx hb dX13_caskHere_4 (by decide) ?_
  refine mk_lds S hK hP (0) (by omega) rfl dX13_caskHere_5 ?_
  refine lv_bipush (v := 8) hx hb dX13_caskHere_6 (by decide) ?_
  refine kb_ne_n (tgt := 16) (a := (pN r)) (b := 8) S hn rfl (by omega) (by omega) dX13_caskHere_8 (by decide) (fun c_8 => ?_) (fun c_8 => ?_)
  · skip
    refine lv_aload_n hx hb dX13_caskHere_16 rfl (lv_at hl 0 rfl) ?_
    refine lv_iload_n hx hb dX13_caskHere_17 rfl (lv_at hl 1 rfl) ?_
    refine lv_iconst (v := 0) hx hb dX13_caskHere_18 (by decide) ?_
    refine c_comes S hK hP hS (rm_ok (Nat.le_of_ble_eq_true rfl)) hl.1 (b) hV (by omega) (Nat.le_of_ble_eq_true rfl) dX13_caskHere_19 (fun H locs hP hS => ?_)
    refine lv_aload_n hx hb dX13_caskHere_22 rfl (lv_at hl 0 rfl) ?_
    refine mg_s S hK hP dX13_caskHere_23 ?_
    refine lv_iconst (v := 0) hx hb dX13_caskHere_26 (by decide) ?_
    refine mk_lds S hK hP (0) (by omega) rfl dX13_caskHere_27 ?_
    refine lv_iconst (v := 1) hx hb dX13_caskHere_28 (by decide) ?_
    refine lv_isub hx hb dX13_caskHere_29 ?_
    refine kb_nat (y := nI ((pN r))) (pN_comes hV (by omega) i 0) ?_
    refine lv_istore_n (lv' := [(2, .int ((nI (pN r)))), (0, .ref (t.2.1 0)), (1, .int (i))]) hx hb dX13_caskHere_30 rfl hl (by decide) rfl (fun ls hl => ?_)
    refine lv_aload_n hx hb dX13_caskHere_31 rfl (lv_at hl 1 rfl) ?_
    refine c_nx S hK hP hS (rm_ok (Nat.le_of_ble_eq_true rfl)) hl.1 hpi (Nat.le_of_ble_eq_true rfl) dX13_caskHere_32 (fun H locs hP hS => ?_)
    refine lv_aload_n hx hb dX13_caskHere_35 rfl (lv_at hl 1 rfl) ?_
    refine lv_aload_n hx hb dX13_caskHere_36 rfl (lv_at hl 1 rfl) ?_
    refine lv_iconst (v := 2) hx hb dX13_caskHere_37 (by decide) ?_
    refine c_isWord S hK hP (rm_ok (Nat.le_of_ble_eq_true rfl)) hl.1 (Nat.le_of_ble_eq_true rfl) dX13_caskHere_38 ?_
    refine kb_ifeq (tgt := 76) S dX13_caskHere_41 (by decide) (fun c_41 => ?_) (fun c_41 => ?_)
    · skip
      refine lv_iconst (v := 0) hx hb dX13_caskHere_76 (by decide) ?_
      refine kb_nat (y := b2i (m_in tp (q_next tp x))) (b2i_f (show ¬ m_in tp (q_next tp x) from fun z => c_41 z.1)).symm ?_
      refine lv_iload_n hx hb dX13_caskHere_77 rfl (lv_at hl 0 rfl) ?_
      refine lv_iconst (v := 1) hx hb dX13_caskHere_78 (by decide) ?_
      refine c_at S (rm_ok (Nat.le_of_ble_eq_true rfl)) hl.1 ((pN r)) (1) rfl rfl (Nat.le_of_ble_eq_true rfl) dX13_caskHere_79 ?_
      refine lv_iconst (v := 5) hx hb dX13_caskHere_82 (by decide) ?_
      refine c_perhapsG S hK hP hS (rm_ok (Nat.le_of_ble_eq_true rfl)) hl.1 ((16 + 7 * (pN r) + 1)) (tp) hpi.next (by omega) rfl (Nat.le_of_ble_eq_true rfl) dX13_caskHere_83 (fun s_1 hs_1 H locs hP hS => ?_)
      have hp1 : PI tp s_1.2.2 := hs_1 ▸ PI_perh hpi.next
      refine kb_ifeq (tgt := 177) S dX13_caskHere_86 (by decide) (fun c_86 => ?_) (fun c_86 => ?_)
      · skip
        refine lv_iconst (v := 0) hx hb dX13_caskHere_177 (by decide) ?_
        exact kk_zfW S hr hlk hS (by rw [m_cask, if_neg c_8, m_chain, show m_c1 tp (pN r) (p_comes r i 0) (q_next tp x) = s_1 from hs_1, mc_f c_86, mc_f c_86, mc_f c_86]; exact hP) (by rw [m_cask, if_neg c_8, m_chain, show m_c1 tp (pN r) (p_comes r i 0) (q_next tp x) = s_1 from hs_1, mc_f c_86, mc_f c_86, mc_f c_86]; exact c_86) dX13_caskHere_178
      · skip
        refine lv_aload_n hx hb dX13_caskHere_89 rfl (lv_at hl 1 rfl) ?_
        refine lv_aload_n hx hb dX13_caskHere_90 rfl (lv_at hl 1 rfl) ?_
        refine lv_bipush (v := 112) hx hb dX13_caskHere_91 (by decide) ?_
        refine lv_bipush (v := 101) hx hb dX13_caskHere_93 (by decide) ?_
        refine lv_bipush (v := 97) hx hb dX13_caskHere_95 (by decide) ?_
        refine lv_bipush (v := 108) hx hb dX13_caskHere_97 (by decide) ?_
        refine c_isFour S hK hP (rm_ok (Nat.le_of_ble_eq_true rfl)) hl.1 (tp) hp1 (Nat.le_of_ble_eq_true rfl) dX13_caskHere_99 ?_
        refine lv_iload_n hx hb dX13_caskHere_102 rfl (lv_at hl 0 rfl) ?_
        refine lv_iconst (v := 2) hx hb dX13_caskHere_103 (by decide) ?_
        refine c_at S (rm_ok (Nat.le_of_ble_eq_true rfl)) hl.1 ((pN r)) (2) rfl rfl (Nat.le_of_ble_eq_true rfl) dX13_caskHere_104 ?_
        refine lv_sipush (v := 999) hx hb dX13_caskHere_107 (by decide) ?_
        refine c_perhapsG S hK hP hS (rm_ok (Nat.le_of_ble_eq_true rfl)) hl.1 ((16 + 7 * (pN r) + 2)) (tp) hp1 (by omega) rfl (Nat.le_of_ble_eq_true rfl) dX13_caskHere_110 (fun s_2 hs_2 H locs hP hS => ?_)
        have hp2 : PI tp s_2.2.2 := hs_2 ▸ PI_perh hp1
        refine kb_ifeq (tgt := 177) S dX13_caskHere_113 (by decide) (fun c_113 => ?_) (fun c_113 => ?_)
        · skip
          refine lv_iconst (v := 0) hx hb dX13_caskHere_177 (by decide) ?_
          exact kk_zfW S hr hlk hS (by rw [m_cask, if_neg c_8, m_chain, show m_c1 tp (pN r) (p_comes r i 0) (q_next tp x) = s_1 from hs_1, mc_t c_86, show m_c2 tp (pN r) s_1.2.1 s_1.2.2 = s_2 from hs_2, mc_f c_113, mc_f c_113]; exact hP) (by rw [m_cask, if_neg c_8, m_chain, show m_c1 tp (pN r) (p_comes r i 0) (q_next tp x) = s_1 from hs_1, mc_t c_86, show m_c2 tp (pN r) s_1.2.1 s_1.2.2 = s_2 from hs_2, mc_f c_113, mc_f c_113]; exact c_113) dX13_caskHere_178
        · skip
          refine lv_aload_n hx hb dX13_caskHere_116 rfl (lv_at hl 1 rfl) ?_
          refine lv_aload_n hx hb dX13_caskHere_117 rfl (lv_at hl 1 rfl) ?_
          refine lv_bipush (v := 112) hx hb dX13_caskHere_118 (by decide) ?_
          refine lv_bipush (v := 105) hx hb dX13_caskHere_120 (by decide) ?_
          refine lv_bipush (v := 116) hx hb dX13_caskHere_122 (by decide) ?_
          refine lv_bipush (v := 99) hx hb dX13_caskHere_124 (by decide) ?_
          refine lv_bipush (v := 104) hx hb dX13_caskHere_126 (by decide) ?_
          refine c_isFive S hK hP (rm_ok (Nat.le_of_ble_eq_true rfl)) hl.1 (tp) hp2 (Nat.le_of_ble_eq_true rfl) dX13_caskHere_128 ?_
          refine lv_iload_n hx hb dX13_caskHere_131 rfl (lv_at hl 0 rfl) ?_
          refine lv_iconst (v := 3) hx hb dX13_caskHere_132 (by decide) ?_
          refine c_at S (rm_ok (Nat.le_of_ble_eq_true rfl)) hl.1 ((pN r)) (3) rfl rfl (Nat.le_of_ble_eq_true rfl) dX13_caskHere_133 ?_
          refine lv_bipush (v := 11) hx hb dX13_caskHere_136 (by decide) ?_
          refine c_perhapsG S hK hP hS (rm_ok (Nat.le_of_ble_eq_true rfl)) hl.1 ((16 + 7 * (pN r) + 3)) (tp) hp2 (by omega) rfl (Nat.le_of_ble_eq_true rfl) dX13_caskHere_138 (fun s_3 hs_3 H locs hP hS => ?_)
          have hp3 : PI tp s_3.2.2 := hs_3 ▸ PI_perh hp2
          refine kb_ifeq (tgt := 177) S dX13_caskHere_141 (by decide) (fun c_141 => ?_) (fun c_141 => ?_)
          · skip
            refine lv_iconst (v := 0) hx hb dX13_caskHere_177 (by decide) ?_
            exact kk_zfW S hr hlk hS (by rw [m_cask, if_neg c_8, m_chain, show m_c1 tp (pN r) (p_comes r i 0) (q_next tp x) = s_1 from hs_1, mc_t c_86, show m_c2 tp (pN r) s_1.2.1 s_1.2.2 = s_2 from hs_2, mc_t c_113, show m_c3 tp (pN r) s_2.2.1 s_2.2.2 = s_3 from hs_3, mc_f c_141]; exact hP) (by rw [m_cask, if_neg c_8, m_chain, show m_c1 tp (pN r) (p_comes r i 0) (q_next tp x) = s_1 from hs_1, mc_t c_86, show m_c2 tp (pN r) s_1.2.1 s_1.2.2 = s_2 from hs_2, mc_t c_113, show m_c3 tp (pN r) s_2.2.1 s_2.2.2 = s_3 from hs_3, mc_f c_141]; exact c_141) dX13_caskHere_178
          · skip
            refine lv_aload_n hx hb dX13_caskHere_144 rfl (lv_at hl 1 rfl) ?_
            refine lv_aload_n hx hb dX13_caskHere_145 rfl (lv_at hl 1 rfl) ?_
            refine lv_bipush (v := 104) hx hb dX13_caskHere_146 (by decide) ?_
            refine lv_bipush (v := 111) hx hb dX13_caskHere_148 (by decide) ?_
            refine lv_bipush (v := 111) hx hb dX13_caskHere_150 (by decide) ?_
            refine lv_bipush (v := 112) hx hb dX13_caskHere_152 (by decide) ?_
            refine lv_bipush (v := 115) hx hb dX13_caskHere_154 (by decide) ?_
            refine c_isFive S hK hP (rm_ok (Nat.le_of_ble_eq_true rfl)) hl.1 (tp) hp3 (Nat.le_of_ble_eq_true rfl) dX13_caskHere_156 ?_
            refine lv_iload_n hx hb dX13_caskHere_159 rfl (lv_at hl 0 rfl) ?_
            refine lv_iconst (v := 4) hx hb dX13_caskHere_160 (by decide) ?_
            refine c_at S (rm_ok (Nat.le_of_ble_eq_true rfl)) hl.1 ((pN r)) (4) rfl rfl (Nat.le_of_ble_eq_true rfl) dX13_caskHere_161 ?_
            refine lv_sipush (v := 999) hx hb dX13_caskHere_164 (by decide) ?_
            refine c_perhapsG S hK hP hS (rm_ok (Nat.le_of_ble_eq_true rfl)) hl.1 ((16 + 7 * (pN r) + 4)) (tp) hp3 (by omega) rfl (Nat.le_of_ble_eq_true rfl) dX13_caskHere_167 (fun s_4 hs_4 H locs hP hS => ?_)
            have hp4 : PI tp s_4.2.2 := hs_4 ▸ PI_perh hp3
            refine kb_ifeq (tgt := 177) S dX13_caskHere_170 (by decide) (fun c_170 => ?_) (fun c_170 => ?_)
            · skip
              refine lv_iconst (v := 0) hx hb dX13_caskHere_177 (by decide) ?_
              exact kk_zfW S hr hlk hS (by rw [m_cask, if_neg c_8, m_chain, show m_c1 tp (pN r) (p_comes r i 0) (q_next tp x) = s_1 from hs_1, mc_t c_86, show m_c2 tp (pN r) s_1.2.1 s_1.2.2 = s_2 from hs_2, mc_t c_113, show m_c3 tp (pN r) s_2.2.1 s_2.2.2 = s_3 from hs_3, mc_t c_141, show m_c4 tp (pN r) s_3.2.1 s_3.2.2 = s_4 from hs_4]; exact hP) (by rw [m_cask, if_neg c_8, m_chain, show m_c1 tp (pN r) (p_comes r i 0) (q_next tp x) = s_1 from hs_1, mc_t c_86, show m_c2 tp (pN r) s_1.2.1 s_1.2.2 = s_2 from hs_2, mc_t c_113, show m_c3 tp (pN r) s_2.2.1 s_2.2.2 = s_3 from hs_3, mc_t c_141, show m_c4 tp (pN r) s_3.2.1 s_3.2.2 = s_4 from hs_4]; exact c_170) dX13_caskHere_178
            · skip
              refine lv_iconst (v := 1) hx hb dX13_caskHere_173 (by decide) ?_
              refine lv_goto (tgt := 178) hx hb dX13_caskHere_174 (by decide) ?_
              exact kk_ztW S hr hlk hS (by rw [m_cask, if_neg c_8, m_chain, show m_c1 tp (pN r) (p_comes r i 0) (q_next tp x) = s_1 from hs_1, mc_t c_86, show m_c2 tp (pN r) s_1.2.1 s_1.2.2 = s_2 from hs_2, mc_t c_113, show m_c3 tp (pN r) s_2.2.1 s_2.2.2 = s_3 from hs_3, mc_t c_141, show m_c4 tp (pN r) s_3.2.1 s_3.2.2 = s_4 from hs_4]; exact hP) (by rw [m_cask, if_neg c_8, m_chain, show m_c1 tp (pN r) (p_comes r i 0) (q_next tp x) = s_1 from hs_1, mc_t c_86, show m_c2 tp (pN r) s_1.2.1 s_1.2.2 = s_2 from hs_2, mc_t c_113, show m_c3 tp (pN r) s_2.2.1 s_2.2.2 = s_3 from hs_3, mc_t c_141, show m_c4 tp (pN r) s_3.2.1 s_3.2.2 = s_4 from hs_4]; exact c_170) dX13_caskHere_178
    · skip
      refine lv_aload_n hx hb dX13_caskHere_44 rfl (lv_at hl 1 rfl) ?_
      refine lv_aload_n hx hb dX13_caskHere_45 rfl (lv_at hl 1 rfl) ?_
      refine mg_from S hK hP dX13_caskHere_46 ?_
      refine c_byteAt S hK hP (rm_ok (Nat.le_of_ble_eq_true rfl)) hl.1 ((frN (q_next tp x))) (tp) hpi.1 (by omega) (by omega) hpi.next.fr.1 (Nat.le_of_ble_eq_true rfl) dX13_caskHere_49 ?_
      refine lv_bipush (v := 105) hx hb dX13_caskHere_52 (by decide) ?_
      refine lv_icmp_ne (tgt := 76) hx hb dX13_caskHere_54 (by decide) (fun c_54 => ?_) (fun c_54 => ?_)
      · skip
        refine lv_iconst (v := 0) hx hb dX13_caskHere_76 (by decide) ?_
        refine kb_nat (y := b2i (m_in tp (q_next tp x))) (b2i_f (show ¬ m_in tp (q_next tp x) from fun z => c_54 z.2.1)).symm ?_
        refine lv_iload_n hx hb dX13_caskHere_77 rfl (lv_at hl 0 rfl) ?_
        refine lv_iconst (v := 1) hx hb dX13_caskHere_78 (by decide) ?_
        refine c_at S (rm_ok (Nat.le_of_ble_eq_true rfl)) hl.1 ((pN r)) (1) rfl rfl (Nat.le_of_ble_eq_true rfl) dX13_caskHere_79 ?_
        refine lv_iconst (v := 5) hx hb dX13_caskHere_82 (by decide) ?_
        refine c_perhapsG S hK hP hS (rm_ok (Nat.le_of_ble_eq_true rfl)) hl.1 ((16 + 7 * (pN r) + 1)) (tp) hpi.next (by omega) rfl (Nat.le_of_ble_eq_true rfl) dX13_caskHere_83 (fun s_1 hs_1 H locs hP hS => ?_)
        have hp1 : PI tp s_1.2.2 := hs_1 ▸ PI_perh hpi.next
        refine kb_ifeq (tgt := 177) S dX13_caskHere_86 (by decide) (fun c_86 => ?_) (fun c_86 => ?_)
        · skip
          refine lv_iconst (v := 0) hx hb dX13_caskHere_177 (by decide) ?_
          exact kk_zfW S hr hlk hS (by rw [m_cask, if_neg c_8, m_chain, show m_c1 tp (pN r) (p_comes r i 0) (q_next tp x) = s_1 from hs_1, mc_f c_86, mc_f c_86, mc_f c_86]; exact hP) (by rw [m_cask, if_neg c_8, m_chain, show m_c1 tp (pN r) (p_comes r i 0) (q_next tp x) = s_1 from hs_1, mc_f c_86, mc_f c_86, mc_f c_86]; exact c_86) dX13_caskHere_178
        · skip
          refine lv_aload_n hx hb dX13_caskHere_89 rfl (lv_at hl 1 rfl) ?_
          refine lv_aload_n hx hb dX13_caskHere_90 rfl (lv_at hl 1 rfl) ?_
          refine lv_bipush (v := 112) hx hb dX13_caskHere_91 (by decide) ?_
          refine lv_bipush (v := 101) hx hb dX13_caskHere_93 (by decide) ?_
          refine lv_bipush (v := 97) hx hb dX13_caskHere_95 (by decide) ?_
          refine lv_bipush (v := 108) hx hb dX13_caskHere_97 (by decide) ?_
          refine c_isFour S hK hP (rm_ok (Nat.le_of_ble_eq_true rfl)) hl.1 (tp) hp1 (Nat.le_of_ble_eq_true rfl) dX13_caskHere_99 ?_
          refine lv_iload_n hx hb dX13_caskHere_102 rfl (lv_at hl 0 rfl) ?_
          refine lv_iconst (v := 2) hx hb dX13_caskHere_103 (by decide) ?_
          refine c_at S (rm_ok (Nat.le_of_ble_eq_true rfl)) hl.1 ((pN r)) (2) rfl rfl (Nat.le_of_ble_eq_true rfl) dX13_caskHere_104 ?_
          refine lv_sipush (v := 999) hx hb dX13_caskHere_107 (by decide) ?_
          refine c_perhapsG S hK hP hS (rm_ok (Nat.le_of_ble_eq_true rfl)) hl.1 ((16 + 7 * (pN r) + 2)) (tp) hp1 (by omega) rfl (Nat.le_of_ble_eq_true rfl) dX13_caskHere_110 (fun s_2 hs_2 H locs hP hS => ?_)
          have hp2 : PI tp s_2.2.2 := hs_2 ▸ PI_perh hp1
          refine kb_ifeq (tgt := 177) S dX13_caskHere_113 (by decide) (fun c_113 => ?_) (fun c_113 => ?_)
          · skip
            refine lv_iconst (v := 0) hx hb dX13_caskHere_177 (by decide) ?_
            exact kk_zfW S hr hlk hS (by rw [m_cask, if_neg c_8, m_chain, show m_c1 tp (pN r) (p_comes r i 0) (q_next tp x) = s_1 from hs_1, mc_t c_86, show m_c2 tp (pN r) s_1.2.1 s_1.2.2 = s_2 from hs_2, mc_f c_113, mc_f c_113]; exact hP) (by rw [m_cask, if_neg c_8, m_chain, show m_c1 tp (pN r) (p_comes r i 0) (q_next tp x) = s_1 from hs_1, mc_t c_86, show m_c2 tp (pN r) s_1.2.1 s_1.2.2 = s_2 from hs_2, mc_f c_113, mc_f c_113]; exact c_113) dX13_caskHere_178
          · skip
            refine lv_aload_n hx hb dX13_caskHere_116 rfl (lv_at hl 1 rfl) ?_
            refine lv_aload_n hx hb dX13_caskHere_117 rfl (lv_at hl 1 rfl) ?_
            refine lv_bipush (v := 112) hx hb dX13_caskHere_118 (by decide) ?_
            refine lv_bipush (v := 105) hx hb dX13_caskHere_120 (by decide) ?_
            refine lv_bipush (v := 116) hx hb dX13_caskHere_122 (by decide) ?_
            refine lv_bipush (v := 99) hx hb dX13_caskHere_124 (by decide) ?_
            refine lv_bipush (v := 104) hx hb dX13_caskHere_126 (by decide) ?_
            refine c_isFive S hK hP (rm_ok (Nat.le_of_ble_eq_true rfl)) hl.1 (tp) hp2 (Nat.le_of_ble_eq_true rfl) dX13_caskHere_128 ?_
            refine lv_iload_n hx hb dX13_caskHere_131 rfl (lv_at hl 0 rfl) ?_
            refine lv_iconst (v := 3) hx hb dX13_caskHere_132 (by decide) ?_
            refine c_at S (rm_ok (Nat.le_of_ble_eq_true rfl)) hl.1 ((pN r)) (3) rfl rfl (Nat.le_of_ble_eq_true rfl) dX13_caskHere_133 ?_
            refine lv_bipush (v := 11) hx hb dX13_caskHere_136 (by decide) ?_
            refine c_perhapsG S hK hP hS (rm_ok (Nat.le_of_ble_eq_true rfl)) hl.1 ((16 + 7 * (pN r) + 3)) (tp) hp2 (by omega) rfl (Nat.le_of_ble_eq_true rfl) dX13_caskHere_138 (fun s_3 hs_3 H locs hP hS => ?_)
            have hp3 : PI tp s_3.2.2 := hs_3 ▸ PI_perh hp2
            refine kb_ifeq (tgt := 177) S dX13_caskHere_141 (by decide) (fun c_141 => ?_) (fun c_141 => ?_)
            · skip
              refine lv_iconst (v := 0) hx hb dX13_caskHere_177 (by decide) ?_
              exact kk_zfW S hr hlk hS (by rw [m_cask, if_neg c_8, m_chain, show m_c1 tp (pN r) (p_comes r i 0) (q_next tp x) = s_1 from hs_1, mc_t c_86, show m_c2 tp (pN r) s_1.2.1 s_1.2.2 = s_2 from hs_2, mc_t c_113, show m_c3 tp (pN r) s_2.2.1 s_2.2.2 = s_3 from hs_3, mc_f c_141]; exact hP) (by rw [m_cask, if_neg c_8, m_chain, show m_c1 tp (pN r) (p_comes r i 0) (q_next tp x) = s_1 from hs_1, mc_t c_86, show m_c2 tp (pN r) s_1.2.1 s_1.2.2 = s_2 from hs_2, mc_t c_113, show m_c3 tp (pN r) s_2.2.1 s_2.2.2 = s_3 from hs_3, mc_f c_141]; exact c_141) dX13_caskHere_178
            · skip
              refine lv_aload_n hx hb dX13_caskHere_144 rfl (lv_at hl 1 rfl) ?_
              refine lv_aload_n hx hb dX13_caskHere_145 rfl (lv_at hl 1 rfl) ?_
              refine lv_bipush (v := 104) hx hb dX13_caskHere_146 (by decide) ?_
              refine lv_bipush (v := 111) hx hb dX13_caskHere_148 (by decide) ?_
              refine lv_bipush (v := 111) hx hb dX13_caskHere_150 (by decide) ?_
              refine lv_bipush (v := 112) hx hb dX13_caskHere_152 (by decide) ?_
              refine lv_bipush (v := 115) hx hb dX13_caskHere_154 (by decide) ?_
              refine c_isFive S hK hP (rm_ok (Nat.le_of_ble_eq_true rfl)) hl.1 (tp) hp3 (Nat.le_of_ble_eq_true rfl) dX13_caskHere_156 ?_
              refine lv_iload_n hx hb dX13_caskHere_159 rfl (lv_at hl 0 rfl) ?_
              refine lv_iconst (v := 4) hx hb dX13_caskHere_160 (by decide) ?_
              refine c_at S (rm_ok (Nat.le_of_ble_eq_true rfl)) hl.1 ((pN r)) (4) rfl rfl (Nat.le_of_ble_eq_true rfl) dX13_caskHere_161 ?_
              refine lv_sipush (v := 999) hx hb dX13_caskHere_164 (by decide) ?_
              refine c_perhapsG S hK hP hS (rm_ok (Nat.le_of_ble_eq_true rfl)) hl.1 ((16 + 7 * (pN r) + 4)) (tp) hp3 (by omega) rfl (Nat.le_of_ble_eq_true rfl) dX13_caskHere_167 (fun s_4 hs_4 H locs hP hS => ?_)
              have hp4 : PI tp s_4.2.2 := hs_4 ▸ PI_perh hp3
              refine kb_ifeq (tgt := 177) S dX13_caskHere_170 (by decide) (fun c_170 => ?_) (fun c_170 => ?_)
              · skip
                refine lv_iconst (v := 0) hx hb dX13_caskHere_177 (by decide) ?_
                exact kk_zfW S hr hlk hS (by rw [m_cask, if_neg c_8, m_chain, show m_c1 tp (pN r) (p_comes r i 0) (q_next tp x) = s_1 from hs_1, mc_t c_86, show m_c2 tp (pN r) s_1.2.1 s_1.2.2 = s_2 from hs_2, mc_t c_113, show m_c3 tp (pN r) s_2.2.1 s_2.2.2 = s_3 from hs_3, mc_t c_141, show m_c4 tp (pN r) s_3.2.1 s_3.2.2 = s_4 from hs_4]; exact hP) (by rw [m_cask, if_neg c_8, m_chain, show m_c1 tp (pN r) (p_comes r i 0) (q_next tp x) = s_1 from hs_1, mc_t c_86, show m_c2 tp (pN r) s_1.2.1 s_1.2.2 = s_2 from hs_2, mc_t c_113, show m_c3 tp (pN r) s_2.2.1 s_2.2.2 = s_3 from hs_3, mc_t c_141, show m_c4 tp (pN r) s_3.2.1 s_3.2.2 = s_4 from hs_4]; exact c_170) dX13_caskHere_178
              · skip
                refine lv_iconst (v := 1) hx hb dX13_caskHere_173 (by decide) ?_
                refine lv_goto (tgt := 178) hx hb dX13_caskHere_174 (by decide) ?_
                exact kk_ztW S hr hlk hS (by rw [m_cask, if_neg c_8, m_chain, show m_c1 tp (pN r) (p_comes r i 0) (q_next tp x) = s_1 from hs_1, mc_t c_86, show m_c2 tp (pN r) s_1.2.1 s_1.2.2 = s_2 from hs_2, mc_t c_113, show m_c3 tp (pN r) s_2.2.1 s_2.2.2 = s_3 from hs_3, mc_t c_141, show m_c4 tp (pN r) s_3.2.1 s_3.2.2 = s_4 from hs_4]; exact hP) (by rw [m_cask, if_neg c_8, m_chain, show m_c1 tp (pN r) (p_comes r i 0) (q_next tp x) = s_1 from hs_1, mc_t c_86, show m_c2 tp (pN r) s_1.2.1 s_1.2.2 = s_2 from hs_2, mc_t c_113, show m_c3 tp (pN r) s_2.2.1 s_2.2.2 = s_3 from hs_3, mc_t c_141, show m_c4 tp (pN r) s_3.2.1 s_3.2.2 = s_4 from hs_4]; exact c_170) dX13_caskHere_178
      · skip
        refine lv_aload_n hx hb dX13_caskHere_57 rfl (lv_at hl 1 rfl) ?_
        refine lv_aload_n hx hb dX13_caskHere_58 rfl (lv_at hl 1 rfl) ?_
        refine mg_from S hK hP dX13_caskHere_59 ?_
        refine lv_iconst (v := 1) hx hb dX13_caskHere_62 (by decide) ?_
        refine lv_iadd hx hb dX13_caskHere_63 ?_
        refine c_byteAt S hK hP (rm_ok (Nat.le_of_ble_eq_true rfl)) hl.1 (((frN (q_next tp x)) + 1)) (tp) hpi.1 (by omega) (by omega) (nn_add hpi.next.fr.1 rfl) (Nat.le_of_ble_eq_true rfl) dX13_caskHere_64 ?_
        refine lv_bipush (v := 110) hx hb dX13_caskHere_67 (by decide) ?_
        refine lv_icmp_ne (tgt := 76) hx hb dX13_caskHere_69 (by decide) (fun c_69 => ?_) (fun c_69 => ?_)
        · skip
          refine lv_iconst (v := 0) hx hb dX13_caskHere_76 (by decide) ?_
          refine kb_nat (y := b2i (m_in tp (q_next tp x))) (b2i_f (show ¬ m_in tp (q_next tp x) from fun z => c_69 z.2.2)).symm ?_
          refine lv_iload_n hx hb dX13_caskHere_77 rfl (lv_at hl 0 rfl) ?_
          refine lv_iconst (v := 1) hx hb dX13_caskHere_78 (by decide) ?_
          refine c_at S (rm_ok (Nat.le_of_ble_eq_true rfl)) hl.1 ((pN r)) (1) rfl rfl (Nat.le_of_ble_eq_true rfl) dX13_caskHere_79 ?_
          refine lv_iconst (v := 5) hx hb dX13_caskHere_82 (by decide) ?_
          refine c_perhapsG S hK hP hS (rm_ok (Nat.le_of_ble_eq_true rfl)) hl.1 ((16 + 7 * (pN r) + 1)) (tp) hpi.next (by omega) rfl (Nat.le_of_ble_eq_true rfl) dX13_caskHere_83 (fun s_1 hs_1 H locs hP hS => ?_)
          have hp1 : PI tp s_1.2.2 := hs_1 ▸ PI_perh hpi.next
          refine kb_ifeq (tgt := 177) S dX13_caskHere_86 (by decide) (fun c_86 => ?_) (fun c_86 => ?_)
          · skip
            refine lv_iconst (v := 0) hx hb dX13_caskHere_177 (by decide) ?_
            exact kk_zfW S hr hlk hS (by rw [m_cask, if_neg c_8, m_chain, show m_c1 tp (pN r) (p_comes r i 0) (q_next tp x) = s_1 from hs_1, mc_f c_86, mc_f c_86, mc_f c_86]; exact hP) (by rw [m_cask, if_neg c_8, m_chain, show m_c1 tp (pN r) (p_comes r i 0) (q_next tp x) = s_1 from hs_1, mc_f c_86, mc_f c_86, mc_f c_86]; exact c_86) dX13_caskHere_178
          · skip
            refine lv_aload_n hx hb dX13_caskHere_89 rfl (lv_at hl 1 rfl) ?_
            refine lv_aload_n hx hb dX13_caskHere_90 rfl (lv_at hl 1 rfl) ?_
            refine lv_bipush (v := 112) hx hb dX13_caskHere_91 (by decide) ?_
            refine lv_bipush (v := 101) hx hb dX13_caskHere_93 (by decide) ?_
            refine lv_bipush (v := 97) hx hb dX13_caskHere_95 (by decide) ?_
            refine lv_bipush (v := 108) hx hb dX13_caskHere_97 (by decide) ?_
            refine c_isFour S hK hP (rm_ok (Nat.le_of_ble_eq_true rfl)) hl.1 (tp) hp1 (Nat.le_of_ble_eq_true rfl) dX13_caskHere_99 ?_
            refine lv_iload_n hx hb dX13_caskHere_102 rfl (lv_at hl 0 rfl) ?_
            refine lv_iconst (v := 2) hx hb dX13_caskHere_103 (by decide) ?_
            refine c_at S (rm_ok (Nat.le_of_ble_eq_true rfl)) hl.1 ((pN r)) (2) rfl rfl (Nat.le_of_ble_eq_true rfl) dX13_caskHere_104 ?_
            refine lv_sipush (v := 999) hx hb dX13_caskHere_107 (by decide) ?_
            refine c_perhapsG S hK hP hS (rm_ok (Nat.le_of_ble_eq_true rfl)) hl.1 ((16 + 7 * (pN r) + 2)) (tp) hp1 (by omega) rfl (Nat.le_of_ble_eq_true rfl) dX13_caskHere_110 (fun s_2 hs_2 H locs hP hS => ?_)
            have hp2 : PI tp s_2.2.2 := hs_2 ▸ PI_perh hp1
            refine kb_ifeq (tgt := 177) S dX13_caskHere_113 (by decide) (fun c_113 => ?_) (fun c_113 => ?_)
            · skip
              refine lv_iconst (v := 0) hx hb dX13_caskHere_177 (by decide) ?_
              exact kk_zfW S hr hlk hS (by rw [m_cask, if_neg c_8, m_chain, show m_c1 tp (pN r) (p_comes r i 0) (q_next tp x) = s_1 from hs_1, mc_t c_86, show m_c2 tp (pN r) s_1.2.1 s_1.2.2 = s_2 from hs_2, mc_f c_113, mc_f c_113]; exact hP) (by rw [m_cask, if_neg c_8, m_chain, show m_c1 tp (pN r) (p_comes r i 0) (q_next tp x) = s_1 from hs_1, mc_t c_86, show m_c2 tp (pN r) s_1.2.1 s_1.2.2 = s_2 from hs_2, mc_f c_113, mc_f c_113]; exact c_113) dX13_caskHere_178
            · skip
              refine lv_aload_n hx hb dX13_caskHere_116 rfl (lv_at hl 1 rfl) ?_
              refine lv_aload_n hx hb dX13_caskHere_117 rfl (lv_at hl 1 rfl) ?_
              refine lv_bipush (v := 112) hx hb dX13_caskHere_118 (by decide) ?_
              refine lv_bipush (v := 105) hx hb dX13_caskHere_120 (by decide) ?_
              refine lv_bipush (v := 116) hx hb dX13_caskHere_122 (by decide) ?_
              refine lv_bipush (v := 99) hx hb dX13_caskHere_124 (by decide) ?_
              refine lv_bipush (v := 104) hx hb dX13_caskHere_126 (by decide) ?_
              refine c_isFive S hK hP (rm_ok (Nat.le_of_ble_eq_true rfl)) hl.1 (tp) hp2 (Nat.le_of_ble_eq_true rfl) dX13_caskHere_128 ?_
              refine lv_iload_n hx hb dX13_caskHere_131 rfl (lv_at hl 0 rfl) ?_
              refine lv_iconst (v := 3) hx hb dX13_caskHere_132 (by decide) ?_
              refine c_at S (rm_ok (Nat.le_of_ble_eq_true rfl)) hl.1 ((pN r)) (3) rfl rfl (Nat.le_of_ble_eq_true rfl) dX13_caskHere_133 ?_
              refine lv_bipush (v := 11) hx hb dX13_caskHere_136 (by decide) ?_
              refine c_perhapsG S hK hP hS (rm_ok (Nat.le_of_ble_eq_true rfl)) hl.1 ((16 + 7 * (pN r) + 3)) (tp) hp2 (by omega) rfl (Nat.le_of_ble_eq_true rfl) dX13_caskHere_138 (fun s_3 hs_3 H locs hP hS => ?_)
              have hp3 : PI tp s_3.2.2 := hs_3 ▸ PI_perh hp2
              refine kb_ifeq (tgt := 177) S dX13_caskHere_141 (by decide) (fun c_141 => ?_) (fun c_141 => ?_)
              · skip
                refine lv_iconst (v := 0) hx hb dX13_caskHere_177 (by decide) ?_
                exact kk_zfW S hr hlk hS (by rw [m_cask, if_neg c_8, m_chain, show m_c1 tp (pN r) (p_comes r i 0) (q_next tp x) = s_1 from hs_1, mc_t c_86, show m_c2 tp (pN r) s_1.2.1 s_1.2.2 = s_2 from hs_2, mc_t c_113, show m_c3 tp (pN r) s_2.2.1 s_2.2.2 = s_3 from hs_3, mc_f c_141]; exact hP) (by rw [m_cask, if_neg c_8, m_chain, show m_c1 tp (pN r) (p_comes r i 0) (q_next tp x) = s_1 from hs_1, mc_t c_86, show m_c2 tp (pN r) s_1.2.1 s_1.2.2 = s_2 from hs_2, mc_t c_113, show m_c3 tp (pN r) s_2.2.1 s_2.2.2 = s_3 from hs_3, mc_f c_141]; exact c_141) dX13_caskHere_178
              · skip
                refine lv_aload_n hx hb dX13_caskHere_144 rfl (lv_at hl 1 rfl) ?_
                refine lv_aload_n hx hb dX13_caskHere_145 rfl (lv_at hl 1 rfl) ?_
                refine lv_bipush (v := 104) hx hb dX13_caskHere_146 (by decide) ?_
                refine lv_bipush (v := 111) hx hb dX13_caskHere_148 (by decide) ?_
                refine lv_bipush (v := 111) hx hb dX13_caskHere_150 (by decide) ?_
                refine lv_bipush (v := 112) hx hb dX13_caskHere_152 (by decide) ?_
                refine lv_bipush (v := 115) hx hb dX13_caskHere_154 (by decide) ?_
                refine c_isFive S hK hP (rm_ok (Nat.le_of_ble_eq_true rfl)) hl.1 (tp) hp3 (Nat.le_of_ble_eq_true rfl) dX13_caskHere_156 ?_
                refine lv_iload_n hx hb dX13_caskHere_159 rfl (lv_at hl 0 rfl) ?_
                refine lv_iconst (v := 4) hx hb dX13_caskHere_160 (by decide) ?_
                refine c_at S (rm_ok (Nat.le_of_ble_eq_true rfl)) hl.1 ((pN r)) (4) rfl rfl (Nat.le_of_ble_eq_true rfl) dX13_caskHere_161 ?_
                refine lv_sipush (v := 999) hx hb dX13_caskHere_164 (by decide) ?_
                refine c_perhapsG S hK hP hS (rm_ok (Nat.le_of_ble_eq_true rfl)) hl.1 ((16 + 7 * (pN r) + 4)) (tp) hp3 (by omega) rfl (Nat.le_of_ble_eq_true rfl) dX13_caskHere_167 (fun s_4 hs_4 H locs hP hS => ?_)
                have hp4 : PI tp s_4.2.2 := hs_4 ▸ PI_perh hp3
                refine kb_ifeq (tgt := 177) S dX13_caskHere_170 (by decide) (fun c_170 => ?_) (fun c_170 => ?_)
                · skip
                  refine lv_iconst (v := 0) hx hb dX13_caskHere_177 (by decide) ?_
                  exact kk_zfW S hr hlk hS (by rw [m_cask, if_neg c_8, m_chain, show m_c1 tp (pN r) (p_comes r i 0) (q_next tp x) = s_1 from hs_1, mc_t c_86, show m_c2 tp (pN r) s_1.2.1 s_1.2.2 = s_2 from hs_2, mc_t c_113, show m_c3 tp (pN r) s_2.2.1 s_2.2.2 = s_3 from hs_3, mc_t c_141, show m_c4 tp (pN r) s_3.2.1 s_3.2.2 = s_4 from hs_4]; exact hP) (by rw [m_cask, if_neg c_8, m_chain, show m_c1 tp (pN r) (p_comes r i 0) (q_next tp x) = s_1 from hs_1, mc_t c_86, show m_c2 tp (pN r) s_1.2.1 s_1.2.2 = s_2 from hs_2, mc_t c_113, show m_c3 tp (pN r) s_2.2.1 s_2.2.2 = s_3 from hs_3, mc_t c_141, show m_c4 tp (pN r) s_3.2.1 s_3.2.2 = s_4 from hs_4]; exact c_170) dX13_caskHere_178
                · skip
                  refine lv_iconst (v := 1) hx hb dX13_caskHere_173 (by decide) ?_
                  refine lv_goto (tgt := 178) hx hb dX13_caskHere_174 (by decide) ?_
                  exact kk_ztW S hr hlk hS (by rw [m_cask, if_neg c_8, m_chain, show m_c1 tp (pN r) (p_comes r i 0) (q_next tp x) = s_1 from hs_1, mc_t c_86, show m_c2 tp (pN r) s_1.2.1 s_1.2.2 = s_2 from hs_2, mc_t c_113, show m_c3 tp (pN r) s_2.2.1 s_2.2.2 = s_3 from hs_3, mc_t c_141, show m_c4 tp (pN r) s_3.2.1 s_3.2.2 = s_4 from hs_4]; exact hP) (by rw [m_cask, if_neg c_8, m_chain, show m_c1 tp (pN r) (p_comes r i 0) (q_next tp x) = s_1 from hs_1, mc_t c_86, show m_c2 tp (pN r) s_1.2.1 s_1.2.2 = s_2 from hs_2, mc_t c_113, show m_c3 tp (pN r) s_2.2.1 s_2.2.2 = s_3 from hs_3, mc_t c_141, show m_c4 tp (pN r) s_3.2.1 s_3.2.2 = s_4 from hs_4]; exact c_170) dX13_caskHere_178
        · skip
          refine lv_iconst (v := 1) hx hb dX13_caskHere_72 (by decide) ?_
          refine lv_goto (tgt := 77) hx hb dX13_caskHere_73 (by decide) ?_
          refine kb_nat (y := b2i (m_in tp (q_next tp x))) (b2i_t (show m_in tp (q_next tp x) from ⟨c_41, c_54, c_69⟩)).symm ?_
          refine lv_iload_n hx hb dX13_caskHere_77 rfl (lv_at hl 0 rfl) ?_
          refine lv_iconst (v := 1) hx hb dX13_caskHere_78 (by decide) ?_
          refine c_at S (rm_ok (Nat.le_of_ble_eq_true rfl)) hl.1 ((pN r)) (1) rfl rfl (Nat.le_of_ble_eq_true rfl) dX13_caskHere_79 ?_
          refine lv_iconst (v := 5) hx hb dX13_caskHere_82 (by decide) ?_
          refine c_perhapsG S hK hP hS (rm_ok (Nat.le_of_ble_eq_true rfl)) hl.1 ((16 + 7 * (pN r) + 1)) (tp) hpi.next (by omega) rfl (Nat.le_of_ble_eq_true rfl) dX13_caskHere_83 (fun s_1 hs_1 H locs hP hS => ?_)
          have hp1 : PI tp s_1.2.2 := hs_1 ▸ PI_perh hpi.next
          refine kb_ifeq (tgt := 177) S dX13_caskHere_86 (by decide) (fun c_86 => ?_) (fun c_86 => ?_)
          · skip
            refine lv_iconst (v := 0) hx hb dX13_caskHere_177 (by decide) ?_
            exact kk_zfW S hr hlk hS (by rw [m_cask, if_neg c_8, m_chain, show m_c1 tp (pN r) (p_comes r i 0) (q_next tp x) = s_1 from hs_1, mc_f c_86, mc_f c_86, mc_f c_86]; exact hP) (by rw [m_cask, if_neg c_8, m_chain, show m_c1 tp (pN r) (p_comes r i 0) (q_next tp x) = s_1 from hs_1, mc_f c_86, mc_f c_86, mc_f c_86]; exact c_86) dX13_caskHere_178
          · skip
            refine lv_aload_n hx hb dX13_caskHere_89 rfl (lv_at hl 1 rfl) ?_
            refine lv_aload_n hx hb dX13_caskHere_90 rfl (lv_at hl 1 rfl) ?_
            refine lv_bipush (v := 112) hx hb dX13_caskHere_91 (by decide) ?_
            refine lv_bipush (v := 101) hx hb dX13_caskHere_93 (by decide) ?_
            refine lv_bipush (v := 97) hx hb dX13_caskHere_95 (by decide) ?_
            refine lv_bipush (v := 108) hx hb dX13_caskHere_97 (by decide) ?_
            refine c_isFour S hK hP (rm_ok (Nat.le_of_ble_eq_true rfl)) hl.1 (tp) hp1 (Nat.le_of_ble_eq_true rfl) dX13_caskHere_99 ?_
            refine lv_iload_n hx hb dX13_caskHere_102 rfl (lv_at hl 0 rfl) ?_
            refine lv_iconst (v := 2) hx hb dX13_caskHere_103 (by decide) ?_
            refine c_at S (rm_ok (Nat.le_of_ble_eq_true rfl)) hl.1 ((pN r)) (2) rfl rfl (Nat.le_of_ble_eq_true rfl) dX13_caskHere_104 ?_
            refine lv_sipush (v := 999) hx hb dX13_caskHere_107 (by decide) ?_
            refine c_perhapsG S hK hP hS (rm_ok (Nat.le_of_ble_eq_true rfl)) hl.1 ((16 + 7 * (pN r) + 2)) (tp) hp1 (by omega) rfl (Nat.le_of_ble_eq_true rfl) dX13_caskHere_110 (fun s_2 hs_2 H locs hP hS => ?_)
            have hp2 : PI tp s_2.2.2 := hs_2 ▸ PI_perh hp1
            refine kb_ifeq (tgt := 177) S dX13_caskHere_113 (by decide) (fun c_113 => ?_) (fun c_113 => ?_)
            · skip
              refine lv_iconst (v := 0) hx hb dX13_caskHere_177 (by decide) ?_
              exact kk_zfW S hr hlk hS (by rw [m_cask, if_neg c_8, m_chain, show m_c1 tp (pN r) (p_comes r i 0) (q_next tp x) = s_1 from hs_1, mc_t c_86, show m_c2 tp (pN r) s_1.2.1 s_1.2.2 = s_2 from hs_2, mc_f c_113, mc_f c_113]; exact hP) (by rw [m_cask, if_neg c_8, m_chain, show m_c1 tp (pN r) (p_comes r i 0) (q_next tp x) = s_1 from hs_1, mc_t c_86, show m_c2 tp (pN r) s_1.2.1 s_1.2.2 = s_2 from hs_2, mc_f c_113, mc_f c_113]; exact c_113) dX13_caskHere_178
            · skip
              refine lv_aload_n hx hb dX13_caskHere_116 rfl (lv_at hl 1 rfl) ?_
              refine lv_aload_n hx hb dX13_caskHere_117 rfl (lv_at hl 1 rfl) ?_
              refine lv_bipush (v := 112) hx hb dX13_caskHere_118 (by decide) ?_
              refine lv_bipush (v := 105) hx hb dX13_caskHere_120 (by decide) ?_
              refine lv_bipush (v := 116) hx hb dX13_caskHere_122 (by decide) ?_
              refine lv_bipush (v := 99) hx hb dX13_caskHere_124 (by decide) ?_
              refine lv_bipush (v := 104) hx hb dX13_caskHere_126 (by decide) ?_
              refine c_isFive S hK hP (rm_ok (Nat.le_of_ble_eq_true rfl)) hl.1 (tp) hp2 (Nat.le_of_ble_eq_true rfl) dX13_caskHere_128 ?_
              refine lv_iload_n hx hb dX13_caskHere_131 rfl (lv_at hl 0 rfl) ?_
              refine lv_iconst (v := 3) hx hb dX13_caskHere_132 (by decide) ?_
              refine c_at S (rm_ok (Nat.le_of_ble_eq_true rfl)) hl.1 ((pN r)) (3) rfl rfl (Nat.le_of_ble_eq_true rfl) dX13_caskHere_133 ?_
              refine lv_bipush (v := 11) hx hb dX13_caskHere_136 (by decide) ?_
              refine c_perhapsG S hK hP hS (rm_ok (Nat.le_of_ble_eq_true rfl)) hl.1 ((16 + 7 * (pN r) + 3)) (tp) hp2 (by omega) rfl (Nat.le_of_ble_eq_true rfl) dX13_caskHere_138 (fun s_3 hs_3 H locs hP hS => ?_)
              have hp3 : PI tp s_3.2.2 := hs_3 ▸ PI_perh hp2
              refine kb_ifeq (tgt := 177) S dX13_caskHere_141 (by decide) (fun c_141 => ?_) (fun c_141 => ?_)
              · skip
                refine lv_iconst (v := 0) hx hb dX13_caskHere_177 (by decide) ?_
                exact kk_zfW S hr hlk hS (by rw [m_cask, if_neg c_8, m_chain, show m_c1 tp (pN r) (p_comes r i 0) (q_next tp x) = s_1 from hs_1, mc_t c_86, show m_c2 tp (pN r) s_1.2.1 s_1.2.2 = s_2 from hs_2, mc_t c_113, show m_c3 tp (pN r) s_2.2.1 s_2.2.2 = s_3 from hs_3, mc_f c_141]; exact hP) (by rw [m_cask, if_neg c_8, m_chain, show m_c1 tp (pN r) (p_comes r i 0) (q_next tp x) = s_1 from hs_1, mc_t c_86, show m_c2 tp (pN r) s_1.2.1 s_1.2.2 = s_2 from hs_2, mc_t c_113, show m_c3 tp (pN r) s_2.2.1 s_2.2.2 = s_3 from hs_3, mc_f c_141]; exact c_141) dX13_caskHere_178
              · skip
                refine lv_aload_n hx hb dX13_caskHere_144 rfl (lv_at hl 1 rfl) ?_
                refine lv_aload_n hx hb dX13_caskHere_145 rfl (lv_at hl 1 rfl) ?_
                refine lv_bipush (v := 104) hx hb dX13_caskHere_146 (by decide) ?_
                refine lv_bipush (v := 111) hx hb dX13_caskHere_148 (by decide) ?_
                refine lv_bipush (v := 111) hx hb dX13_caskHere_150 (by decide) ?_
                refine lv_bipush (v := 112) hx hb dX13_caskHere_152 (by decide) ?_
                refine lv_bipush (v := 115) hx hb dX13_caskHere_154 (by decide) ?_
                refine c_isFive S hK hP (rm_ok (Nat.le_of_ble_eq_true rfl)) hl.1 (tp) hp3 (Nat.le_of_ble_eq_true rfl) dX13_caskHere_156 ?_
                refine lv_iload_n hx hb dX13_caskHere_159 rfl (lv_at hl 0 rfl) ?_
                refine lv_iconst (v := 4) hx hb dX13_caskHere_160 (by decide) ?_
                refine c_at S (rm_ok (Nat.le_of_ble_eq_true rfl)) hl.1 ((pN r)) (4) rfl rfl (Nat.le_of_ble_eq_true rfl) dX13_caskHere_161 ?_
                refine lv_sipush (v := 999) hx hb dX13_caskHere_164 (by decide) ?_
                refine c_perhapsG S hK hP hS (rm_ok (Nat.le_of_ble_eq_true rfl)) hl.1 ((16 + 7 * (pN r) + 4)) (tp) hp3 (by omega) rfl (Nat.le_of_ble_eq_true rfl) dX13_caskHere_167 (fun s_4 hs_4 H locs hP hS => ?_)
                have hp4 : PI tp s_4.2.2 := hs_4 ▸ PI_perh hp3
                refine kb_ifeq (tgt := 177) S dX13_caskHere_170 (by decide) (fun c_170 => ?_) (fun c_170 => ?_)
                · skip
                  refine lv_iconst (v := 0) hx hb dX13_caskHere_177 (by decide) ?_
                  exact kk_zfW S hr hlk hS (by rw [m_cask, if_neg c_8, m_chain, show m_c1 tp (pN r) (p_comes r i 0) (q_next tp x) = s_1 from hs_1, mc_t c_86, show m_c2 tp (pN r) s_1.2.1 s_1.2.2 = s_2 from hs_2, mc_t c_113, show m_c3 tp (pN r) s_2.2.1 s_2.2.2 = s_3 from hs_3, mc_t c_141, show m_c4 tp (pN r) s_3.2.1 s_3.2.2 = s_4 from hs_4]; exact hP) (by rw [m_cask, if_neg c_8, m_chain, show m_c1 tp (pN r) (p_comes r i 0) (q_next tp x) = s_1 from hs_1, mc_t c_86, show m_c2 tp (pN r) s_1.2.1 s_1.2.2 = s_2 from hs_2, mc_t c_113, show m_c3 tp (pN r) s_2.2.1 s_2.2.2 = s_3 from hs_3, mc_t c_141, show m_c4 tp (pN r) s_3.2.1 s_3.2.2 = s_4 from hs_4]; exact c_170) dX13_caskHere_178
                · skip
                  refine lv_iconst (v := 1) hx hb dX13_caskHere_173 (by decide) ?_
                  refine lv_goto (tgt := 178) hx hb dX13_caskHere_174 (by decide) ?_
                  exact kk_ztW S hr hlk hS (by rw [m_cask, if_neg c_8, m_chain, show m_c1 tp (pN r) (p_comes r i 0) (q_next tp x) = s_1 from hs_1, mc_t c_86, show m_c2 tp (pN r) s_1.2.1 s_1.2.2 = s_2 from hs_2, mc_t c_113, show m_c3 tp (pN r) s_2.2.1 s_2.2.2 = s_3 from hs_3, mc_t c_141, show m_c4 tp (pN r) s_3.2.1 s_3.2.2 = s_4 from hs_4]; exact hP) (by rw [m_cask, if_neg c_8, m_chain, show m_c1 tp (pN r) (p_comes r i 0) (q_next tp x) = s_1 from hs_1, mc_t c_86, show m_c2 tp (pN r) s_1.2.1 s_1.2.2 = s_2 from hs_2, mc_t c_113, show m_c3 tp (pN r) s_2.2.1 s_2.2.2 = s_3 from hs_3, mc_t c_141, show m_c4 tp (pN r) s_3.2.1 s_3.2.2 = s_4 from hs_4]; exact c_170) dX13_caskHere_178
  · skip
    refine lv_aload_n hx hb dX13_caskHere_11 rfl (lv_at hl 0 rfl) ?_
    refine c_fails S hK hP hS (rm_ok (Nat.le_of_ble_eq_true rfl)) hl.1 (Nat.le_of_ble_eq_true rfl) dX13_caskHere_12 (fun H locs hP hS => ?_)
    exact kk_zretW S hr hlk hS (by rw [m_cask, if_pos c_8]; exact hP) (by rw [m_cask, if_pos c_8]; exact ⟨fun z => z.elim, fun z => absurd z Bool.false_ne_true⟩) dX13_caskHere_15
section MC
variable {p : Program} {l : Launch} {e : Env} {R : Room} {s : State} {m : MethodId} {args : Array Value} {below : List Frame} {meth : Method} {c : Code} {H H0 : Heap} {locs : List Loc} {cells slots : Nat} {Q : State → Prop}
variable {cc : ByteArray} {pc nL : Nat} {ls : Array Slot} {rest : List Value} {t : MT} {r : Rw} {x : Nat → Rw}
theorem c_caskHere (S : CallFix p m c cc nL s args lw_all RX13) (hK : mK t s) (hP : mW t r x H) (hS : va_S (mA t) H0 H locs) (hR : kRm R 4 cells slots) (hsz : ls.size = nL) {i : Int32} (tp : Nat) (b : Nat) (hpi : PI tp x) (hV : pV b r) (hrest : (rest.map fun v => v.category).sum ≤ 8) (hdg : decode cc pc = .ok (.invokevirtual 269, 3)) (kk : ∀ (H1 : Heap) (locs1 : List Loc), mW t ((m_cask tp i r x).2.1) ((m_cask tp i r x).2.2) H1 → va_S (mA t) H0 H1 locs1 → W p l e R s m args below meth c H1 locs1 cells slots Q (F0 m (pc + 3) ls (.int (b2i ((m_cask tp i r x).1 = true)) :: rest))) : W p l e R s m args below meth c H locs cells slots Q (F0 m pc ls (.int i :: .ref (t.2.1 0) :: rest)) := by
  exact kk_Wi (W.runV (As := [.int i]) (rest := rest) S (k_caskHere l t r x i tp b hpi hV) (cwV 1 S.2.2.2.2 (lw_V q1633 q1635 qs95 q117 q1636) rfl rfl rfl (by decide +kernel) ⟨hR.1, by have := hR.2.1; show 8 + (3 + 11) + 38 * 3 ≤ R.locals; omega⟩) ⟨m_blind, m_recv hK hP, m_pre hK hP⟩ rfl rfl hsz rfl (lv_room hrest) hdg ⟨hR.2.2.1, hR.2.2.2⟩) hS (fun _ h => h) (fun _ h => h) (fun H1 locs1 hB _ _ hS => kk H1 locs1 hB hS)
theorem c_caskHereG (S : CallFix p m c cc nL s args lw_all RX13) (hK : mK t s) (hP : mW t r x H) (hS : va_S (mA t) H0 H locs) (hR : kRm R 4 cells slots) (hsz : ls.size = nL) {i : Int32} (tp : Nat) (b : Nat) (hpi : PI tp x) (hV : pV b r) (hrest : (rest.map fun v => v.category).sum ≤ 8) (hdg : decode cc pc = .ok (.invokevirtual 269, 3)) (kk : ∀ (s1 : Ps), m_cask tp i r x = s1 → ∀ (H1 : Heap) (locs1 : List Loc), mW t s1.2.1 s1.2.2 H1 → va_S (mA t) H0 H1 locs1 → W p l e R s m args below meth c H1 locs1 cells slots Q (F0 m (pc + 3) ls (.int (b2i (s1.1 = true)) :: rest))) : W p l e R s m args below meth c H locs cells slots Q (F0 m pc ls (.int i :: .ref (t.2.1 0) :: rest)) := by
  exact c_caskHere S hK hP hS hR hsz tp b hpi hV hrest hdg (fun H1 locs1 hP hS => kk _ rfl H1 locs1 hP hS)
end MC
set_option maxHeartbeats 4000000 in
set_option maxRecDepth 100000 in
theorem k_itemHere (l : Launch) (t : MT) (r : Rw) (x : Nat → Rw) (tp : Nat) (b : Nat) (hpi : PI tp x) (hV : pV b r) : Met l yX13_itemHere (ws_ yX13_itemHere cX13_itemHere 2 (some .boolean)) (rmF 4) (va_Pc [.ref (t.2.1 0)] (fun U => mK t U ∧ mW t r x U.heap)) (kW (some (.int (b2i ((m_item tp r x).1 = true)))) (mW t ((m_item tp r x).2.1) ((m_item tp r x).2.2)) (mA t)) 0 0 (mA t) := by
  refine kk_start (by decide) (Nat.le_of_ble_eq_true rfl) ?_
  intro p e s m below meth c S hr hlk hin hB ls hl
  obtain ⟨hK, hP⟩ := hB
  have hx := S.1
  have hb := S.2.1
  have hown : s.vm.findClass RX13 = some m.cls := S.2.2.2.1
  have hts := S.2.2.2.2
  have hS : va_S (mA t) s.heap s.heap [] := va_S.rf
  have hl : lv_has ls 2 [(0, .ref (t.2.1 0))] := hl
  refine lv_aload_n hx hb dX13_itemHere_0 rfl (lv_at hl 0 rfl) ?_
  refine c_kindHere S hK hP (rm_ok (Nat.le_of_ble_eq_true rfl)) hl.1 (tp) hpi (Nat.le_of_ble_eq_true rfl) dX13_itemHere_1 ?_
  refine kb_topo (fun o_1 eo_1 => ?_)
  have hb8 : ∀ i, o_1 = some i → i < 8 := fun i h => Nat.lt_trans (m_kind_lt (eo_1 ▸ h)) (by decide)
  refine lv_istore_n (lv' := [(1, .int ((oi o_1))), (0, .ref (t.2.1 0))]) hx hb dX13_itemHere_4 rfl hl (by decide) rfl (fun ls hl => ?_)
  refine lv_iload_n hx hb dX13_itemHere_5 rfl (lv_at hl 0 rfl) ?_
  refine kb_iflt_o (tgt := 15) S dX13_itemHere_6 (by decide) (fun c_6 => ?_) (fun c_6 => ?_) (fun i hi => Nat.lt_trans (hb8 i hi) (by decide))
  · skip
    subst c_6
    refine lv_aload_n hx hb dX13_itemHere_15 rfl (lv_at hl 1 rfl) ?_
    refine lv_bipush (v := 115) hx hb dX13_itemHere_16 (by decide) ?_
    refine lv_bipush (v := 116) hx hb dX13_itemHere_18 (by decide) ?_
    refine lv_bipush (v := 111) hx hb dX13_itemHere_20 (by decide) ?_
    refine lv_bipush (v := 114) hx hb dX13_itemHere_22 (by decide) ?_
    refine lv_bipush (v := 109) hx hb dX13_itemHere_24 (by decide) ?_
    refine c_isFive S hK hP (rm_ok (Nat.le_of_ble_eq_true rfl)) hl.1 (tp) hpi (Nat.le_of_ble_eq_true rfl) dX13_itemHere_26 ?_
    refine kb_ifeq (tgt := 41) S dX13_itemHere_29 (by decide) (fun c_29 => ?_) (fun c_29 => ?_)
    · skip
      refine lv_aload_n hx hb dX13_itemHere_41 rfl (lv_at hl 1 rfl) ?_
      refine lv_bipush (v := 102) hx hb dX13_itemHere_42 (by decide) ?_
      refine lv_bipush (v := 114) hx hb dX13_itemHere_44 (by decide) ?_
      refine lv_bipush (v := 111) hx hb dX13_itemHere_46 (by decide) ?_
      refine lv_bipush (v := 115) hx hb dX13_itemHere_48 (by decide) ?_
      refine lv_bipush (v := 116) hx hb dX13_itemHere_50 (by decide) ?_
      refine c_isFive S hK hP (rm_ok (Nat.le_of_ble_eq_true rfl)) hl.1 (tp) hpi (Nat.le_of_ble_eq_true rfl) dX13_itemHere_52 ?_
      refine kb_ifeq (tgt := 68) S dX13_itemHere_55 (by decide) (fun c_55 => ?_) (fun c_55 => ?_)
      · skip
        refine lv_aload_n hx hb dX13_itemHere_68 rfl (lv_at hl 1 rfl) ?_
        refine c_fails S hK hP hS (rm_ok (Nat.le_of_ble_eq_true rfl)) hl.1 (Nat.le_of_ble_eq_true rfl) dX13_itemHere_69 (fun H locs hP hS => ?_)
        exact kk_zretW S hr hlk hS (by unfold m_item; rw [← eo_1]; simp only []; rw [if_neg c_29, if_neg c_55]; exact hP) (by unfold m_item; rw [← eo_1]; simp only []; rw [if_neg c_29, if_neg c_55]; exact ⟨fun z => z.elim, fun z => absurd z Bool.false_ne_true⟩) dX13_itemHere_72
      · skip
        refine lv_aload_n hx hb dX13_itemHere_58 rfl (lv_at hl 1 rfl) ?_
        refine lv_iconst (v := 4) hx hb dX13_itemHere_59 (by decide) ?_
        refine lv_bipush (v := 9) hx hb dX13_itemHere_60 (by decide) ?_
        refine c_cellarHereG S hK hP hS (rm_ok (Nat.le_of_ble_eq_true rfl)) hl.1 (4) (tp) hpi (by omega) rfl (Nat.le_of_ble_eq_true rfl) dX13_itemHere_62 (fun s_1 hs_1 H locs hP hS => ?_)
        refine lv_goto (tgt := 72) hx hb dX13_itemHere_65 (by decide) ?_
        exact kk_zretW S hr hlk hS (by unfold m_item; rw [← eo_1]; simp only []; rw [if_neg c_29, if_pos c_55]; rw [show m_cellar tp 4 9 r x = s_1 from hs_1]; exact hP) (by unfold m_item; rw [← eo_1]; simp only []; rw [if_neg c_29, if_pos c_55]; rw [show m_cellar tp 4 9 r x = s_1 from hs_1]) dX13_itemHere_72
    · skip
      refine lv_aload_n hx hb dX13_itemHere_32 rfl (lv_at hl 1 rfl) ?_
      refine lv_bipush (v := 10) hx hb dX13_itemHere_33 (by decide) ?_
      refine lv_bipush (v := 99) hx hb dX13_itemHere_35 (by decide) ?_
      refine c_cellarHereG S hK hP hS (rm_ok (Nat.le_of_ble_eq_true rfl)) hl.1 (10) (tp) hpi (by omega) rfl (Nat.le_of_ble_eq_true rfl) dX13_itemHere_37 (fun s_1 hs_1 H locs hP hS => ?_)
      exact kk_zretW S hr hlk hS (by unfold m_item; rw [← eo_1]; simp only []; rw [if_pos c_29]; rw [show m_cellar tp 10 99 r x = s_1 from hs_1]; exact hP) (by unfold m_item; rw [← eo_1]; simp only []; rw [if_pos c_29]; rw [show m_cellar tp 10 99 r x = s_1 from hs_1]) dX13_itemHere_40
  · skip
    obtain ⟨o_1_6, rfl⟩ := c_6
    have ho_1_6 := hb8 _ rfl
    refine lv_aload_n hx hb dX13_itemHere_9 rfl (lv_at hl 1 rfl) ?_
    refine lv_iload_n hx hb dX13_itemHere_10 rfl (lv_at hl 0 rfl) ?_
    refine c_caskHereG S hK hP hS (rm_ok (Nat.le_of_ble_eq_true rfl)) hl.1 (tp) (b) hpi hV (Nat.le_of_ble_eq_true rfl) dX13_itemHere_11 (fun s_1 hs_1 H locs hP hS => ?_)
    exact kk_zretW S hr hlk hS (by unfold m_item; rw [← eo_1]; simp only []; rw [show m_cask tp (nI o_1_6) r x = s_1 from hs_1]; exact hP) (by unfold m_item; rw [← eo_1]; simp only []; rw [show m_cask tp (nI o_1_6) r x = s_1 from hs_1]) dX13_itemHere_14
section MC
variable {p : Program} {l : Launch} {e : Env} {R : Room} {s : State} {m : MethodId} {args : Array Value} {below : List Frame} {meth : Method} {c : Code} {H H0 : Heap} {locs : List Loc} {cells slots : Nat} {Q : State → Prop}
variable {cc : ByteArray} {pc nL : Nat} {ls : Array Slot} {rest : List Value} {t : MT} {r : Rw} {x : Nat → Rw}
theorem c_itemHere (S : CallFix p m c cc nL s args lw_all RX13) (hK : mK t s) (hP : mW t r x H) (hS : va_S (mA t) H0 H locs) (hR : kRm R 5 cells slots) (hsz : ls.size = nL) (tp : Nat) (b : Nat) (hpi : PI tp x) (hV : pV b r) (hrest : (rest.map fun v => v.category).sum ≤ 8) (hdg : decode cc pc = .ok (.invokevirtual 275, 3)) (kk : ∀ (H1 : Heap) (locs1 : List Loc), mW t ((m_item tp r x).2.1) ((m_item tp r x).2.2) H1 → va_S (mA t) H0 H1 locs1 → W p l e R s m args below meth c H1 locs1 cells slots Q (F0 m (pc + 3) ls (.int (b2i ((m_item tp r x).1 = true)) :: rest))) : W p l e R s m args below meth c H locs cells slots Q (F0 m pc ls (.ref (t.2.1 0) :: rest)) := by
  exact kk_Wi (W.runV (As := []) (rest := rest) S (k_itemHere l t r x tp b hpi hV) (cwV 0 S.2.2.2.2 (lw_V q1605 q1607 qs88 q117 q1608) rfl rfl rfl (by decide +kernel) ⟨hR.1, by have := hR.2.1; show 8 + (2 + 11) + 38 * 4 ≤ R.locals; omega⟩) ⟨m_blind, m_recv hK hP, m_pre hK hP⟩ rfl rfl hsz rfl (lv_room hrest) hdg ⟨hR.2.2.1, hR.2.2.2⟩) hS (fun _ h => h) (fun _ h => h) (fun H1 locs1 hB _ _ hS => kk H1 locs1 hB hS)
theorem c_itemHereG (S : CallFix p m c cc nL s args lw_all RX13) (hK : mK t s) (hP : mW t r x H) (hS : va_S (mA t) H0 H locs) (hR : kRm R 5 cells slots) (hsz : ls.size = nL) (tp : Nat) (b : Nat) (hpi : PI tp x) (hV : pV b r) (hrest : (rest.map fun v => v.category).sum ≤ 8) (hdg : decode cc pc = .ok (.invokevirtual 275, 3)) (kk : ∀ (s1 : Ps), m_item tp r x = s1 → ∀ (H1 : Heap) (locs1 : List Loc), mW t s1.2.1 s1.2.2 H1 → va_S (mA t) H0 H1 locs1 → W p l e R s m args below meth c H1 locs1 cells slots Q (F0 m (pc + 3) ls (.int (b2i (s1.1 = true)) :: rest))) : W p l e R s m args below meth c H locs cells slots Q (F0 m pc ls (.ref (t.2.1 0) :: rest)) := by
  exact c_itemHere S hK hP hS hR hsz tp b hpi hV hrest hdg (fun H1 locs1 hP hS => kk _ rfl H1 locs1 hP hS)
end MC

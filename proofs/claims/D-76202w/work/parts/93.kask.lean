/-! COMPONENT: casks of kinds; k<kind>_<class>_<method>: the method of that class on a cask of that kind -/
set_option maxHeartbeats 4000000 in
set_option maxRecDepth 100000 in
theorem kX14_half (l : Launch) (o : Nat) (v : Int32) : MetZ l yX14_half (ws_ yX14_half cX14_half 2 (some .int)) (rmF 0) (va_Pc [.ref (o), .int v] (fun _ => True)) (kR (some (.int (v / 2)))) 0 0 (fun _ => False) := by
  refine kk_startZ (by decide) (Nat.le_of_ble_eq_true rfl) ?_
  intro p e s m below meth c S hr hlk hB ls hl
  have hx := S.1
  have hb := S.2.1
  have hown : s.vm.findClass RX14 = some m.cls := S.2.2.2.1
  have hts := S.2.2.2.2
  have hl : lv_has ls 2 [(0, .ref o), (1, .int (v))] := hl
  refine lv_iload_n hx hb dX14_half_0 rfl (lv_at hl 1 rfl) ?_
  refine lv_iconst (v := 2) hx hb dX14_half_1 (by decide) ?_
  refine lv_idiv hx hb dX14_half_2 (by decide) ?_
  exact kk_iretR S hr hlk rfl rfl (rfl) dX14_half_3
set_option maxHeartbeats 4000000 in
set_option maxRecDepth 100000 in
theorem k0_X6_told (l : Launch) (t : CT) (r : Rw) (x : Nat → Rw) (n : Nat) (w : Nat) (hn : n < 8) (hw : w < 7) : Met l yX6_told (ws_ yX6_told cX6_told 2 (some .int)) (rmF 0) (va_Pc [.ref (t.2.1 (600 + (8 * 0 + n))), .int (nI w)] (fun U => cK t U ∧ cX t r x U.heap)) (kR (some (.int (r (16 + 7 * n + w))))) 0 0 (fun _ => False) := by
  refine kk_start (by decide) (Nat.le_of_ble_eq_true rfl) ?_
  intro p e s m below meth c S hr hlk hin hB ls hl
  obtain ⟨hK, hP⟩ := hB
  have hx := S.1
  have hb := S.2.1
  have hown : s.vm.findClass RX6 = some m.cls := S.2.2.2.1
  have hts := S.2.2.2.2
  have hl : lv_has ls 2 [(0, .ref (t.2.1 (600 + (8 * 0 + n)))), (1, .int ((nI w)))] := hl
  refine lv_aload_n hx hb dX6_told_0 rfl (lv_at hl 0 rfl) ?_
  refine co_get (v := .ref (t.2.1 0)) S hK.1 (ci := 6) (T := TX6) (N := 2) rfl in_X6 (hP.ob 0 n (by decide) hn) 1 (by decide) (hts _ q329) rfl rfl dX6_told_1 ?_
  refine co_getN (v := .ref (t.2.1 100)) S hK.1 (ci := 0) (T := TX0) (N := 12) rfl in_X0 (hP 0 0 (by decide) (by decide)) 3 (by decide) (hK.f (w := ("ThunderCasks$Cask", 23, "ThunderCasks", "d", "LThunderCasks$World;", "ThunderCasks")) 21 rfl _) rfl rfl dX6_told_4 ?_
  refine ck6_cask S hK hP dX6_told_7 ?_
  refine lv_iload_n hx hb dX6_told_10 rfl (lv_at hl 1 rfl) ?_
  refine ck_aald S hK hP (w) (by omega) rfl dX6_told_11 ?_
  refine lv_aload_n hx hb dX6_told_12 rfl (lv_at hl 0 rfl) ?_
  refine co_get (v := .int (nI n)) S hK.1 (ci := 6) (T := TX6) (N := 2) rfl in_X6 (hP.ob 0 n (by decide) hn) 0 (by decide) (hts _ q327) rfl rfl dX6_told_13 ?_
  refine ck_ldc S hK hP (w) (by omega) (n) (by omega) rfl dX6_told_16 ?_
  exact kk_iretR S hr hlk rfl rfl (rfl) dX6_told_17
set_option maxHeartbeats 4000000 in
set_option maxRecDepth 100000 in
theorem k0_X6_kind (l : Launch) (t : CT) (r : Rw) (x : Nat → Rw) (n : Nat) (hn : n < 8) : Met l yX6_kind (ws_ yX6_kind cX6_kind 1 (some .int)) (rmF 0) (va_Pc [.ref (t.2.1 (600 + (8 * 0 + n)))] (fun U => cK t U ∧ cX t r x U.heap)) (kR (some (.int (0)))) 0 0 (fun _ => False) := by
  refine kk_start (by decide) (Nat.le_of_ble_eq_true rfl) ?_
  intro p e s m below meth c S hr hlk hin hB ls hl
  obtain ⟨hK, hP⟩ := hB
  have hx := S.1
  have hb := S.2.1
  have hown : s.vm.findClass RX6 = some m.cls := S.2.2.2.1
  have hts := S.2.2.2.2
  have hl : lv_has ls 1 [(0, .ref (t.2.1 (600 + (8 * 0 + n))))] := hl
  refine lv_iconst (v := 0) hx hb dX6_kind_0 (by decide) ?_
  exact kk_iretR S hr hlk rfl rfl (rfl) dX6_kind_1
set_option maxHeartbeats 4000000 in
set_option maxRecDepth 100000 in
theorem k0_X6_isUnder (l : Launch) (t : CT) (r : Rw) (x : Nat → Rw) (n : Nat) (v : Int32) (hn : n < 8) : Met l yX6_isUnder (ws_ yX6_isUnder cX6_isUnder 2 (some .boolean)) (rmF 1) (va_Pc [.ref (t.2.1 (600 + (8 * 0 + n))), .int v] (fun U => cK t U ∧ cX t r x U.heap)) (kR (some (.int (b2i ((v = 0 ∨ v = 0)))))) 0 0 (fun _ => False) := by
  refine kk_start (by decide) (Nat.le_of_ble_eq_true rfl) ?_
  intro p e s m below meth c S hr hlk hin hB ls hl
  obtain ⟨hK, hP⟩ := hB
  have hx := S.1
  have hb := S.2.1
  have hown : s.vm.findClass RX6 = some m.cls := S.2.2.2.1
  have hts := S.2.2.2.2
  have hl : lv_has ls 2 [(0, .ref (t.2.1 (600 + (8 * 0 + n)))), (1, .int (v))] := hl
  refine lv_iload_n hx hb dX6_isUnder_0 rfl (lv_at hl 1 rfl) ?_
  refine lv_if_eq (tgt := 12) hx hb dX6_isUnder_1 (by decide) (fun c_1 => ?_) (fun c_1 => ?_)
  · skip
    refine lv_iconst (v := 1) hx hb dX6_isUnder_12 (by decide) ?_
    refine lv_goto (tgt := 17) hx hb dX6_isUnder_13 (by decide) ?_
    exact kk_ztR S hr hlk rfl rfl (by grind) dX6_isUnder_17
  · skip
    refine lv_iload_n hx hb dX6_isUnder_4 rfl (lv_at hl 1 rfl) ?_
    refine lv_aload_n hx hb dX6_isUnder_5 rfl (lv_at hl 0 rfl) ?_
    refine kk_Ri ((va_runU (As := []) (rest := [.int (v)]) (C := RX6) (owner := "ThunderCasks$Cask") S (k0_X6_kind l t r x n hn) (va_cwU 0 hts (lw_U q1166 q506 q505 q504 q110 q531) rfl rfl rfl rfl (by decide +kernel) ⟨Nat.le_of_ble_eq_true rfl, Nat.le_of_ble_eq_true rfl⟩) ⟨c_blind, c_recv0 hK hP hn, c_pre hK hP⟩ rfl rfl hl.1 rfl (lv_room (Nat.le_of_ble_eq_true rfl)) dX6_isUnder_6 ⟨Nat.le_refl _, Nat.le_refl _⟩).run) ?_
    refine lv_icmp_ne (tgt := 16) hx hb dX6_isUnder_9 (by decide) (fun c_9 => ?_) (fun c_9 => ?_)
    · skip
      refine lv_iconst (v := 0) hx hb dX6_isUnder_16 (by decide) ?_
      exact kk_zfR S hr hlk rfl rfl (by grind) dX6_isUnder_17
    · skip
      refine lv_iconst (v := 1) hx hb dX6_isUnder_12 (by decide) ?_
      refine lv_goto (tgt := 17) hx hb dX6_isUnder_13 (by decide) ?_
      exact kk_ztR S hr hlk rfl rfl (by grind) dX6_isUnder_17
set_option maxHeartbeats 4000000 in
set_option maxRecDepth 100000 in
theorem k0_X6_loud (l : Launch) (t : CT) (r : Rw) (x : Nat → Rw) (n : Nat) (hn : n < 8) : Met l yX6_loud (ws_ yX6_loud cX6_loud 1 (some .int)) (rmF 1) (va_Pc [.ref (t.2.1 (600 + (8 * 0 + n)))] (fun U => cK t U ∧ cX t r x U.heap)) (kR (some (.int (r (16 + 7 * n + 2))))) 0 0 (fun _ => False) := by
  refine kk_start (by decide) (Nat.le_of_ble_eq_true rfl) ?_
  intro p e s m below meth c S hr hlk hin hB ls hl
  obtain ⟨hK, hP⟩ := hB
  have hx := S.1
  have hb := S.2.1
  have hown : s.vm.findClass RX6 = some m.cls := S.2.2.2.1
  have hts := S.2.2.2.2
  have hl : lv_has ls 1 [(0, .ref (t.2.1 (600 + (8 * 0 + n))))] := hl
  refine lv_aload_n hx hb dX6_loud_0 rfl (lv_at hl 0 rfl) ?_
  refine lv_iconst (v := 2) hx hb dX6_loud_1 (by decide) ?_
  refine kk_Ri ((va_runU (As := [.int (nI 2)]) (rest := []) (C := RX6) (owner := "ThunderCasks$Cask") S (k0_X6_told l t r x n 2 hn (by decide)) (va_cwU 1 hts (lw_U q597 q1714 q1715 q545 q110 q546) rfl rfl rfl rfl (by decide +kernel) ⟨Nat.le_of_ble_eq_true rfl, Nat.le_of_ble_eq_true rfl⟩) ⟨c_blind, c_recv0 hK hP hn, c_pre hK hP⟩ rfl rfl hl.1 rfl (lv_room (Nat.le_of_ble_eq_true rfl)) dX6_loud_2 ⟨Nat.le_refl _, Nat.le_refl _⟩).run) ?_
  exact kk_iretR S hr hlk rfl rfl (rfl) dX6_loud_5
set_option maxHeartbeats 4000000 in
set_option maxRecDepth 100000 in
theorem k0_X6_leaks (l : Launch) (t : CT) (r : Rw) (x : Nat → Rw) (n : Nat) (hn : n < 8) : Met l yX6_leaks (ws_ yX6_leaks cX6_leaks 1 (some .int)) (rmF 0) (va_Pc [.ref (t.2.1 (600 + (8 * 0 + n)))] (fun U => cK t U ∧ cX t r x U.heap)) (kR (some (.int (1)))) 0 0 (fun _ => False) := by
  refine kk_start (by decide) (Nat.le_of_ble_eq_true rfl) ?_
  intro p e s m below meth c S hr hlk hin hB ls hl
  obtain ⟨hK, hP⟩ := hB
  have hx := S.1
  have hb := S.2.1
  have hown : s.vm.findClass RX6 = some m.cls := S.2.2.2.1
  have hts := S.2.2.2.2
  have hl : lv_has ls 1 [(0, .ref (t.2.1 (600 + (8 * 0 + n))))] := hl
  refine lv_iconst (v := 1) hx hb dX6_leaks_0 (by decide) ?_
  exact kk_iretR S hr hlk rfl rfl (rfl) dX6_leaks_1
set_option maxHeartbeats 4000000 in
set_option maxRecDepth 100000 in
theorem k0_X6_bears (l : Launch) (t : CT) (r : Rw) (x : Nat → Rw) (n : Nat) (b : Nat) (hn : n < 8) (hV : pV b r) : Met l yX6_bears (ws_ yX6_bears cX6_bears 1 (some .int)) (rmF 1) (va_Pc [.ref (t.2.1 (600 + (8 * 0 + n)))] (fun U => cK t U ∧ cX t r x U.heap)) (kR (some (.int (p_plain r n)))) 0 0 (fun _ => False) := by
  refine kk_start (by decide) (Nat.le_of_ble_eq_true rfl) ?_
  intro p e s m below meth c S hr hlk hin hB ls hl
  obtain ⟨hK, hP⟩ := hB
  have hx := S.1
  have hb := S.2.1
  have hown : s.vm.findClass RX6 = some m.cls := S.2.2.2.1
  have hts := S.2.2.2.2
  have hl : lv_has ls 1 [(0, .ref (t.2.1 (600 + (8 * 0 + n))))] := hl
  have hc1 := hV.c hn
  refine lv_iconst (v := 0) hx hb dX6_bears_0 (by decide) ?_
  refine lv_aload_n hx hb dX6_bears_1 rfl (lv_at hl 0 rfl) ?_
  refine lv_iconst (v := 4) hx hb dX6_bears_2 (by decide) ?_
  refine kk_Ri ((va_runU (As := [.int (nI 4)]) (rest := [.int (0)]) (C := RX6) (owner := "ThunderCasks$Cask") S (k0_X6_told l t r x n 4 hn (by decide)) (va_cwU 1 hts (lw_U q597 q1714 q1715 q545 q110 q546) rfl rfl rfl rfl (by decide +kernel) ⟨Nat.le_of_ble_eq_true rfl, Nat.le_of_ble_eq_true rfl⟩) ⟨c_blind, c_recv0 hK hP hn, c_pre hK hP⟩ rfl rfl hl.1 rfl (lv_room (Nat.le_of_ble_eq_true rfl)) dX6_bears_3 ⟨Nat.le_refl _, Nat.le_refl _⟩).run) ?_
  refine lv_iconst (v := 5) hx hb dX6_bears_6 (by decide) ?_
  refine lv_aload_n hx hb dX6_bears_7 rfl (lv_at hl 0 rfl) ?_
  refine co_get (v := .ref (t.2.1 0)) S hK.1 (ci := 6) (T := TX6) (N := 2) rfl in_X6 (hP.ob 0 n (by decide) hn) 1 (by decide) (hts _ q329) rfl rfl dX6_bears_8 ?_
  refine co_getN (v := .ref (t.2.1 100)) S hK.1 (ci := 0) (T := TX0) (N := 12) rfl in_X0 (hP 0 0 (by decide) (by decide)) 3 (by decide) (hK.f (w := ("ThunderCasks$Cask", 23, "ThunderCasks", "d", "LThunderCasks$World;", "ThunderCasks")) 21 rfl _) rfl rfl dX6_bears_11 ?_
  refine ck6_frost S hK hP dX6_bears_14 ?_
  refine lv_aload_n hx hb dX6_bears_17 rfl (lv_at hl 0 rfl) ?_
  refine lv_iconst (v := 1) hx hb dX6_bears_18 (by decide) ?_
  refine kk_Ri ((va_runU (As := [.int (nI 1)]) (rest := [.ref (t.2.1 101), .int (5), .int (r (16 + 7 * n + 4)), .int (0)]) (C := RX6) (owner := "ThunderCasks$Cask") S (k0_X6_told l t r x n 1 hn (by decide)) (va_cwU 1 hts (lw_U q597 q1714 q1715 q545 q110 q546) rfl rfl rfl rfl (by decide +kernel) ⟨Nat.le_of_ble_eq_true rfl, Nat.le_of_ble_eq_true rfl⟩) ⟨c_blind, c_recv0 hK hP hn, c_pre hK hP⟩ rfl rfl hl.1 rfl (lv_room (Nat.le_of_ble_eq_true rfl)) dX6_bears_19 ⟨Nat.le_refl _, Nat.le_refl _⟩).run) ?_
  refine ck_ldf S hK hP ((pC r n)) hc1.2 hc1.1 dX6_bears_22 ?_
  refine lv_imul hx hb dX6_bears_23 ?_
  refine lv_isub hx hb dX6_bears_24 ?_
  refine c6_max S (rm_ok (Nat.le_of_ble_eq_true rfl)) hl.1 (Nat.le_of_ble_eq_true rfl) dX6_bears_25 ?_
  exact kk_iretR S hr hlk rfl rfl (rfl) dX6_bears_28
set_option maxHeartbeats 4000000 in
set_option maxRecDepth 100000 in
theorem k1_X6_told (l : Launch) (t : CT) (r : Rw) (x : Nat → Rw) (n : Nat) (w : Nat) (hn : n < 8) (hw : w < 7) : Met l yX6_told (ws_ yX6_told cX6_told 2 (some .int)) (rmF 0) (va_Pc [.ref (t.2.1 (600 + (8 * 1 + n))), .int (nI w)] (fun U => cK t U ∧ cX t r x U.heap)) (kR (some (.int (r (16 + 7 * n + w))))) 0 0 (fun _ => False) := by
  refine kk_start (by decide) (Nat.le_of_ble_eq_true rfl) ?_
  intro p e s m below meth c S hr hlk hin hB ls hl
  obtain ⟨hK, hP⟩ := hB
  have hx := S.1
  have hb := S.2.1
  have hown : s.vm.findClass RX6 = some m.cls := S.2.2.2.1
  have hts := S.2.2.2.2
  have hl : lv_has ls 2 [(0, .ref (t.2.1 (600 + (8 * 1 + n)))), (1, .int ((nI w)))] := hl
  refine lv_aload_n hx hb dX6_told_0 rfl (lv_at hl 0 rfl) ?_
  refine co_get (v := .ref (t.2.1 0)) S hK.1 (ci := 7) (T := TX7) (N := 3) rfl in_X7 (hP.ob 1 n (by decide) hn) 1 (by decide) (hts _ q329) rfl rfl dX6_told_1 ?_
  refine co_getN (v := .ref (t.2.1 100)) S hK.1 (ci := 0) (T := TX0) (N := 12) rfl in_X0 (hP 0 0 (by decide) (by decide)) 3 (by decide) (hK.f (w := ("ThunderCasks$Cask", 23, "ThunderCasks", "d", "LThunderCasks$World;", "ThunderCasks")) 21 rfl _) rfl rfl dX6_told_4 ?_
  refine ck6_cask S hK hP dX6_told_7 ?_
  refine lv_iload_n hx hb dX6_told_10 rfl (lv_at hl 1 rfl) ?_
  refine ck_aald S hK hP (w) (by omega) rfl dX6_told_11 ?_
  refine lv_aload_n hx hb dX6_told_12 rfl (lv_at hl 0 rfl) ?_
  refine co_get (v := .int (nI n)) S hK.1 (ci := 7) (T := TX7) (N := 3) rfl in_X7 (hP.ob 1 n (by decide) hn) 0 (by decide) (hts _ q327) rfl rfl dX6_told_13 ?_
  refine ck_ldc S hK hP (w) (by omega) (n) (by omega) rfl dX6_told_16 ?_
  exact kk_iretR S hr hlk rfl rfl (rfl) dX6_told_17
set_option maxHeartbeats 4000000 in
set_option maxRecDepth 100000 in
theorem k1_X6_kind (l : Launch) (t : CT) (r : Rw) (x : Nat → Rw) (n : Nat) (hn : n < 8) : Met l yX6_kind (ws_ yX6_kind cX6_kind 1 (some .int)) (rmF 0) (va_Pc [.ref (t.2.1 (600 + (8 * 1 + n)))] (fun U => cK t U ∧ cX t r x U.heap)) (kR (some (.int (0)))) 0 0 (fun _ => False) := by
  refine kk_start (by decide) (Nat.le_of_ble_eq_true rfl) ?_
  intro p e s m below meth c S hr hlk hin hB ls hl
  obtain ⟨hK, hP⟩ := hB
  have hx := S.1
  have hb := S.2.1
  have hown : s.vm.findClass RX6 = some m.cls := S.2.2.2.1
  have hts := S.2.2.2.2
  have hl : lv_has ls 1 [(0, .ref (t.2.1 (600 + (8 * 1 + n))))] := hl
  refine lv_iconst (v := 0) hx hb dX6_kind_0 (by decide) ?_
  exact kk_iretR S hr hlk rfl rfl (rfl) dX6_kind_1
set_option maxHeartbeats 4000000 in
set_option maxRecDepth 100000 in
theorem k1_X7_kind (l : Launch) (t : CT) (r : Rw) (x : Nat → Rw) (n : Nat) (hn : n < 8) : Met l yX7_kind (ws_ yX7_kind cX7_kind 1 (some .int)) (rmF 1) (va_Pc [.ref (t.2.1 (600 + (8 * 1 + n)))] (fun U => cK t U ∧ cX t r x U.heap)) (kR (some (.int (1)))) 0 0 (fun _ => False) := by
  refine kk_start (by decide) (Nat.le_of_ble_eq_true rfl) ?_
  intro p e s m below meth c S hr hlk hin hB ls hl
  obtain ⟨hK, hP⟩ := hB
  have hx := S.1
  have hb := S.2.1
  have hown : s.vm.findClass RX7 = some m.cls := S.2.2.2.1
  have hts := S.2.2.2.2
  have hl : lv_has ls 1 [(0, .ref (t.2.1 (600 + (8 * 1 + n))))] := hl
  refine lv_iconst (v := 1) hx hb dX7_kind_0 (by decide) ?_
  refine lv_aload_n hx hb dX7_kind_1 rfl (lv_at hl 0 rfl) ?_
  refine kk_Ri ((va_runSU (As := []) (rest := [.int (1)]) (C := RX7) (hK.1.1 7 _ rfl).2 S (k1_X6_kind l t r x n hn) (va_cwSU 0 hts (lw_SU q510 q506 q336 q504 q110 q531) rfl rfl rfl (by decide +kernel) ⟨Nat.le_of_ble_eq_true rfl, Nat.le_of_ble_eq_true rfl⟩) ⟨c_blind, c_recv1 hK hP hn, c_pre hK hP⟩ rfl rfl hl.1 rfl (lv_room (Nat.le_of_ble_eq_true rfl)) dX7_kind_2 ⟨Nat.le_refl _, Nat.le_refl _⟩).run) ?_
  refine lv_iadd hx hb dX7_kind_5 ?_
  exact kk_iretR S hr hlk rfl rfl (by decide) dX7_kind_6
set_option maxHeartbeats 4000000 in
set_option maxRecDepth 100000 in
theorem k1_X6_isUnder (l : Launch) (t : CT) (r : Rw) (x : Nat → Rw) (n : Nat) (v : Int32) (hn : n < 8) : Met l yX6_isUnder (ws_ yX6_isUnder cX6_isUnder 2 (some .boolean)) (rmF 2) (va_Pc [.ref (t.2.1 (600 + (8 * 1 + n))), .int v] (fun U => cK t U ∧ cX t r x U.heap)) (kR (some (.int (b2i ((v = 0 ∨ v = 1)))))) 0 0 (fun _ => False) := by
  refine kk_start (by decide) (Nat.le_of_ble_eq_true rfl) ?_
  intro p e s m below meth c S hr hlk hin hB ls hl
  obtain ⟨hK, hP⟩ := hB
  have hx := S.1
  have hb := S.2.1
  have hown : s.vm.findClass RX6 = some m.cls := S.2.2.2.1
  have hts := S.2.2.2.2
  have hl : lv_has ls 2 [(0, .ref (t.2.1 (600 + (8 * 1 + n)))), (1, .int (v))] := hl
  refine lv_iload_n hx hb dX6_isUnder_0 rfl (lv_at hl 1 rfl) ?_
  refine lv_if_eq (tgt := 12) hx hb dX6_isUnder_1 (by decide) (fun c_1 => ?_) (fun c_1 => ?_)
  · skip
    refine lv_iconst (v := 1) hx hb dX6_isUnder_12 (by decide) ?_
    refine lv_goto (tgt := 17) hx hb dX6_isUnder_13 (by decide) ?_
    exact kk_ztR S hr hlk rfl rfl (by grind) dX6_isUnder_17
  · skip
    refine lv_iload_n hx hb dX6_isUnder_4 rfl (lv_at hl 1 rfl) ?_
    refine lv_aload_n hx hb dX6_isUnder_5 rfl (lv_at hl 0 rfl) ?_
    refine kk_Ri ((va_runU (As := []) (rest := [.int (v)]) (C := RX7) (owner := "ThunderCasks$Cask") S (k1_X7_kind l t r x n hn) (va_cwO 0 hts (lw_O q1166 q506 q504 q507 q508 q111 q509) rfl rfl rfl q531 (by decide +kernel) ⟨Nat.le_of_ble_eq_true rfl, Nat.le_of_ble_eq_true rfl⟩) ⟨c_blind, c_recv1 hK hP hn, c_pre hK hP⟩ rfl rfl hl.1 rfl (lv_room (Nat.le_of_ble_eq_true rfl)) dX6_isUnder_6 ⟨Nat.le_refl _, Nat.le_refl _⟩).run) ?_
    refine lv_icmp_ne (tgt := 16) hx hb dX6_isUnder_9 (by decide) (fun c_9 => ?_) (fun c_9 => ?_)
    · skip
      refine lv_iconst (v := 0) hx hb dX6_isUnder_16 (by decide) ?_
      exact kk_zfR S hr hlk rfl rfl (by grind) dX6_isUnder_17
    · skip
      refine lv_iconst (v := 1) hx hb dX6_isUnder_12 (by decide) ?_
      refine lv_goto (tgt := 17) hx hb dX6_isUnder_13 (by decide) ?_
      exact kk_ztR S hr hlk rfl rfl (by grind) dX6_isUnder_17
set_option maxHeartbeats 4000000 in
set_option maxRecDepth 100000 in
theorem k1_X7_isUnder (l : Launch) (t : CT) (r : Rw) (x : Nat → Rw) (n : Nat) (v : Int32) (hn : n < 8) : Met l yX7_isUnder (ws_ yX7_isUnder cX7_isUnder 2 (some .boolean)) (rmF 3) (va_Pc [.ref (t.2.1 (600 + (8 * 1 + n))), .int v] (fun U => cK t U ∧ cX t r x U.heap)) (kR (some (.int (b2i ((v = 1 ∨ (v = 0 ∨ v = 1))))))) 0 0 (fun _ => False) := by
  refine kk_start (by decide) (Nat.le_of_ble_eq_true rfl) ?_
  intro p e s m below meth c S hr hlk hin hB ls hl
  obtain ⟨hK, hP⟩ := hB
  have hx := S.1
  have hb := S.2.1
  have hown : s.vm.findClass RX7 = some m.cls := S.2.2.2.1
  have hts := S.2.2.2.2
  have hl : lv_has ls 2 [(0, .ref (t.2.1 (600 + (8 * 1 + n)))), (1, .int (v))] := hl
  refine lv_iload_n hx hb dX7_isUnder_0 rfl (lv_at hl 1 rfl) ?_
  refine lv_iconst (v := 1) hx hb dX7_isUnder_1 (by decide) ?_
  refine lv_icmp_eq (tgt := 13) hx hb dX7_isUnder_2 (by decide) (fun c_2 => ?_) (fun c_2 => ?_)
  · skip
    refine lv_iconst (v := 1) hx hb dX7_isUnder_13 (by decide) ?_
    refine lv_goto (tgt := 18) hx hb dX7_isUnder_14 (by decide) ?_
    exact kk_ztR S hr hlk rfl rfl (by grind) dX7_isUnder_18
  · skip
    refine lv_aload_n hx hb dX7_isUnder_5 rfl (lv_at hl 0 rfl) ?_
    refine lv_iload_n hx hb dX7_isUnder_6 rfl (lv_at hl 1 rfl) ?_
    refine kk_Ri ((va_runSU (As := [.int v]) (rest := []) (C := RX7) (hK.1.1 7 _ rfl).2 S (k1_X6_isUnder l t r x n v hn) (va_cwSU 1 hts (lw_SU q1153 q1149 q336 q1147 q110 q1165) rfl rfl rfl (by decide +kernel) ⟨Nat.le_of_ble_eq_true rfl, Nat.le_of_ble_eq_true rfl⟩) ⟨c_blind, c_recv1 hK hP hn, c_pre hK hP⟩ rfl rfl hl.1 rfl (lv_room (Nat.le_of_ble_eq_true rfl)) dX7_isUnder_7 ⟨Nat.le_refl _, Nat.le_refl _⟩).run) ?_
    refine kb_ifeq (tgt := 17) S dX7_isUnder_10 (by decide) (fun c_10 => ?_) (fun c_10 => ?_)
    · skip
      refine lv_iconst (v := 0) hx hb dX7_isUnder_17 (by decide) ?_
      exact kk_zfR S hr hlk rfl rfl (by grind) dX7_isUnder_18
    · skip
      refine lv_iconst (v := 1) hx hb dX7_isUnder_13 (by decide) ?_
      refine lv_goto (tgt := 18) hx hb dX7_isUnder_14 (by decide) ?_
      exact kk_ztR S hr hlk rfl rfl (by grind) dX7_isUnder_18
set_option maxHeartbeats 4000000 in
set_option maxRecDepth 100000 in
theorem k1_X6_loud (l : Launch) (t : CT) (r : Rw) (x : Nat → Rw) (n : Nat) (hn : n < 8) : Met l yX6_loud (ws_ yX6_loud cX6_loud 1 (some .int)) (rmF 1) (va_Pc [.ref (t.2.1 (600 + (8 * 1 + n)))] (fun U => cK t U ∧ cX t r x U.heap)) (kR (some (.int (r (16 + 7 * n + 2))))) 0 0 (fun _ => False) := by
  refine kk_start (by decide) (Nat.le_of_ble_eq_true rfl) ?_
  intro p e s m below meth c S hr hlk hin hB ls hl
  obtain ⟨hK, hP⟩ := hB
  have hx := S.1
  have hb := S.2.1
  have hown : s.vm.findClass RX6 = some m.cls := S.2.2.2.1
  have hts := S.2.2.2.2
  have hl : lv_has ls 1 [(0, .ref (t.2.1 (600 + (8 * 1 + n))))] := hl
  refine lv_aload_n hx hb dX6_loud_0 rfl (lv_at hl 0 rfl) ?_
  refine lv_iconst (v := 2) hx hb dX6_loud_1 (by decide) ?_
  refine kk_Ri ((va_runU (As := [.int (nI 2)]) (rest := []) (C := RX7) (owner := "ThunderCasks$Cask") S (k1_X6_told l t r x n 2 hn (by decide)) (va_cwU 1 hts (lw_U q597 q1714 q1716 q545 q110 q546) rfl rfl rfl rfl (by decide +kernel) ⟨Nat.le_of_ble_eq_true rfl, Nat.le_of_ble_eq_true rfl⟩) ⟨c_blind, c_recv1 hK hP hn, c_pre hK hP⟩ rfl rfl hl.1 rfl (lv_room (Nat.le_of_ble_eq_true rfl)) dX6_loud_2 ⟨Nat.le_refl _, Nat.le_refl _⟩).run) ?_
  exact kk_iretR S hr hlk rfl rfl (rfl) dX6_loud_5
set_option maxHeartbeats 4000000 in
set_option maxRecDepth 100000 in
theorem k1_X7_loud (l : Launch) (t : CT) (r : Rw) (x : Nat → Rw) (n : Nat) (hn : n < 8) : Met l yX7_loud (ws_ yX7_loud cX7_loud 1 (some .int)) (rmF 2) (va_Pc [.ref (t.2.1 (600 + (8 * 1 + n)))] (fun U => cK t U ∧ cX t r x U.heap)) (kR (some (.int (p_crack r n)))) 0 0 (fun _ => False) := by
  refine kk_start (by decide) (Nat.le_of_ble_eq_true rfl) ?_
  intro p e s m below meth c S hr hlk hin hB ls hl
  obtain ⟨hK, hP⟩ := hB
  have hx := S.1
  have hb := S.2.1
  have hown : s.vm.findClass RX7 = some m.cls := S.2.2.2.1
  have hts := S.2.2.2.2
  have hl : lv_has ls 1 [(0, .ref (t.2.1 (600 + (8 * 1 + n))))] := hl
  refine lv_iconst (v := 0) hx hb dX7_loud_0 (by decide) ?_
  refine lv_iconst (v := 2) hx hb dX7_loud_1 (by decide) ?_
  refine lv_aload_n hx hb dX7_loud_2 rfl (lv_at hl 0 rfl) ?_
  refine kk_Ri ((va_runSU (As := []) (rest := [.int (2), .int (0)]) (C := RX7) (hK.1.1 7 _ rfl).2 S (k1_X6_loud l t r x n hn) (va_cwSU 0 hts (lw_SU q539 q535 q336 q533 q110 q596) rfl rfl rfl (by decide +kernel) ⟨Nat.le_of_ble_eq_true rfl, Nat.le_of_ble_eq_true rfl⟩) ⟨c_blind, c_recv1 hK hP hn, c_pre hK hP⟩ rfl rfl hl.1 rfl (lv_room (Nat.le_of_ble_eq_true rfl)) dX7_loud_3 ⟨Nat.le_refl _, Nat.le_refl _⟩).run) ?_
  refine lv_imul hx hb dX7_loud_6 ?_
  refine lv_aload_n hx hb dX7_loud_7 rfl (lv_at hl 0 rfl) ?_
  refine lv_iconst (v := 5) hx hb dX7_loud_8 (by decide) ?_
  refine kk_Ri ((va_runU (As := [.int (nI 5)]) (rest := [.int ((2 * r (16 + 7 * n + 2))), .int (0)]) (C := RX7) (owner := "ThunderCasks$Cask") S (k1_X6_told l t r x n 5 hn (by decide)) (va_cwU 1 hts (lw_U q540 q541 q543 q545 q110 q546) rfl rfl rfl rfl (by decide +kernel) ⟨Nat.le_of_ble_eq_true rfl, Nat.le_of_ble_eq_true rfl⟩) ⟨c_blind, c_recv1 hK hP hn, c_pre hK hP⟩ rfl rfl hl.1 rfl (lv_room (Nat.le_of_ble_eq_true rfl)) dX7_loud_9 ⟨Nat.le_refl _, Nat.le_refl _⟩).run) ?_
  refine lv_isub hx hb dX7_loud_12 ?_
  refine c7_max S (rm_ok (Nat.le_of_ble_eq_true rfl)) hl.1 (Nat.le_of_ble_eq_true rfl) dX7_loud_13 ?_
  exact kk_iretR S hr hlk rfl rfl (rfl) dX7_loud_16
set_option maxHeartbeats 4000000 in
set_option maxRecDepth 100000 in
theorem k1_X6_leaks (l : Launch) (t : CT) (r : Rw) (x : Nat → Rw) (n : Nat) (hn : n < 8) : Met l yX6_leaks (ws_ yX6_leaks cX6_leaks 1 (some .int)) (rmF 0) (va_Pc [.ref (t.2.1 (600 + (8 * 1 + n)))] (fun U => cK t U ∧ cX t r x U.heap)) (kR (some (.int (1)))) 0 0 (fun _ => False) := by
  refine kk_start (by decide) (Nat.le_of_ble_eq_true rfl) ?_
  intro p e s m below meth c S hr hlk hin hB ls hl
  obtain ⟨hK, hP⟩ := hB
  have hx := S.1
  have hb := S.2.1
  have hown : s.vm.findClass RX6 = some m.cls := S.2.2.2.1
  have hts := S.2.2.2.2
  have hl : lv_has ls 1 [(0, .ref (t.2.1 (600 + (8 * 1 + n))))] := hl
  refine lv_iconst (v := 1) hx hb dX6_leaks_0 (by decide) ?_
  exact kk_iretR S hr hlk rfl rfl (rfl) dX6_leaks_1
set_option maxHeartbeats 4000000 in
set_option maxRecDepth 100000 in
theorem k1_X7_leaks (l : Launch) (t : CT) (r : Rw) (x : Nat → Rw) (n : Nat) (hn : n < 8) : Met l yX7_leaks (ws_ yX7_leaks cX7_leaks 1 (some .int)) (rmF 1) (va_Pc [.ref (t.2.1 (600 + (8 * 1 + n)))] (fun U => cK t U ∧ cX t r x U.heap)) (kR (some (.int (3)))) 0 0 (fun _ => False) := by
  refine kk_start (by decide) (Nat.le_of_ble_eq_true rfl) ?_
  intro p e s m below meth c S hr hlk hin hB ls hl
  obtain ⟨hK, hP⟩ := hB
  have hx := S.1
  have hb := S.2.1
  have hown : s.vm.findClass RX7 = some m.cls := S.2.2.2.1
  have hts := S.2.2.2.2
  have hl : lv_has ls 1 [(0, .ref (t.2.1 (600 + (8 * 1 + n))))] := hl
  refine lv_aload_n hx hb dX7_leaks_0 rfl (lv_at hl 0 rfl) ?_
  refine kk_Ri ((va_runSU (As := []) (rest := []) (C := RX7) (hK.1.1 7 _ rfl).2 S (k1_X6_leaks l t r x n hn) (va_cwSU 0 hts (lw_SU q605 q601 q336 q599 q110 q619) rfl rfl rfl (by decide +kernel) ⟨Nat.le_of_ble_eq_true rfl, Nat.le_of_ble_eq_true rfl⟩) ⟨c_blind, c_recv1 hK hP hn, c_pre hK hP⟩ rfl rfl hl.1 rfl (lv_room (Nat.le_of_ble_eq_true rfl)) dX7_leaks_1 ⟨Nat.le_refl _, Nat.le_refl _⟩).run) ?_
  refine lv_iconst (v := 2) hx hb dX7_leaks_4 (by decide) ?_
  refine lv_iadd hx hb dX7_leaks_5 ?_
  exact kk_iretR S hr hlk rfl rfl (by decide) dX7_leaks_6
set_option maxHeartbeats 4000000 in
set_option maxRecDepth 100000 in
theorem k1_X6_bears (l : Launch) (t : CT) (r : Rw) (x : Nat → Rw) (n : Nat) (b : Nat) (hn : n < 8) (hV : pV b r) : Met l yX6_bears (ws_ yX6_bears cX6_bears 1 (some .int)) (rmF 1) (va_Pc [.ref (t.2.1 (600 + (8 * 1 + n)))] (fun U => cK t U ∧ cX t r x U.heap)) (kR (some (.int (p_plain r n)))) 0 0 (fun _ => False) := by
  refine kk_start (by decide) (Nat.le_of_ble_eq_true rfl) ?_
  intro p e s m below meth c S hr hlk hin hB ls hl
  obtain ⟨hK, hP⟩ := hB
  have hx := S.1
  have hb := S.2.1
  have hown : s.vm.findClass RX6 = some m.cls := S.2.2.2.1
  have hts := S.2.2.2.2
  have hl : lv_has ls 1 [(0, .ref (t.2.1 (600 + (8 * 1 + n))))] := hl
  have hc1 := hV.c hn
  refine lv_iconst (v := 0) hx hb dX6_bears_0 (by decide) ?_
  refine lv_aload_n hx hb dX6_bears_1 rfl (lv_at hl 0 rfl) ?_
  refine lv_iconst (v := 4) hx hb dX6_bears_2 (by decide) ?_
  refine kk_Ri ((va_runU (As := [.int (nI 4)]) (rest := [.int (0)]) (C := RX7) (owner := "ThunderCasks$Cask") S (k1_X6_told l t r x n 4 hn (by decide)) (va_cwU 1 hts (lw_U q597 q1714 q1716 q545 q110 q546) rfl rfl rfl rfl (by decide +kernel) ⟨Nat.le_of_ble_eq_true rfl, Nat.le_of_ble_eq_true rfl⟩) ⟨c_blind, c_recv1 hK hP hn, c_pre hK hP⟩ rfl rfl hl.1 rfl (lv_room (Nat.le_of_ble_eq_true rfl)) dX6_bears_3 ⟨Nat.le_refl _, Nat.le_refl _⟩).run) ?_
  refine lv_iconst (v := 5) hx hb dX6_bears_6 (by decide) ?_
  refine lv_aload_n hx hb dX6_bears_7 rfl (lv_at hl 0 rfl) ?_
  refine co_get (v := .ref (t.2.1 0)) S hK.1 (ci := 7) (T := TX7) (N := 3) rfl in_X7 (hP.ob 1 n (by decide) hn) 1 (by decide) (hts _ q329) rfl rfl dX6_bears_8 ?_
  refine co_getN (v := .ref (t.2.1 100)) S hK.1 (ci := 0) (T := TX0) (N := 12) rfl in_X0 (hP 0 0 (by decide) (by decide)) 3 (by decide) (hK.f (w := ("ThunderCasks$Cask", 23, "ThunderCasks", "d", "LThunderCasks$World;", "ThunderCasks")) 21 rfl _) rfl rfl dX6_bears_11 ?_
  refine ck6_frost S hK hP dX6_bears_14 ?_
  refine lv_aload_n hx hb dX6_bears_17 rfl (lv_at hl 0 rfl) ?_
  refine lv_iconst (v := 1) hx hb dX6_bears_18 (by decide) ?_
  refine kk_Ri ((va_runU (As := [.int (nI 1)]) (rest := [.ref (t.2.1 101), .int (5), .int (r (16 + 7 * n + 4)), .int (0)]) (C := RX7) (owner := "ThunderCasks$Cask") S (k1_X6_told l t r x n 1 hn (by decide)) (va_cwU 1 hts (lw_U q597 q1714 q1716 q545 q110 q546) rfl rfl rfl rfl (by decide +kernel) ⟨Nat.le_of_ble_eq_true rfl, Nat.le_of_ble_eq_true rfl⟩) ⟨c_blind, c_recv1 hK hP hn, c_pre hK hP⟩ rfl rfl hl.1 rfl (lv_room (Nat.le_of_ble_eq_true rfl)) dX6_bears_19 ⟨Nat.le_refl _, Nat.le_refl _⟩).run) ?_
  refine ck_ldf S hK hP ((pC r n)) hc1.2 hc1.1 dX6_bears_22 ?_
  refine lv_imul hx hb dX6_bears_23 ?_
  refine lv_isub hx hb dX6_bears_24 ?_
  refine c6_max S (rm_ok (Nat.le_of_ble_eq_true rfl)) hl.1 (Nat.le_of_ble_eq_true rfl) dX6_bears_25 ?_
  exact kk_iretR S hr hlk rfl rfl (rfl) dX6_bears_28
set_option maxHeartbeats 4000000 in
set_option maxRecDepth 100000 in
theorem k1_X7_bears (l : Launch) (t : CT) (r : Rw) (x : Nat → Rw) (n : Nat) (b : Nat) (hn : n < 8) (hV : pV b r) : Met l yX7_bears (ws_ yX7_bears cX7_bears 1 (some .int)) (rmF 2) (va_Pc [.ref (t.2.1 (600 + (8 * 1 + n)))] (fun U => cK t U ∧ cX t r x U.heap)) (kR (some (.int (p_plain r n / 2)))) 0 0 (fun _ => False) := by
  refine kk_start (by decide) (Nat.le_of_ble_eq_true rfl) ?_
  intro p e s m below meth c S hr hlk hin hB ls hl
  obtain ⟨hK, hP⟩ := hB
  have hx := S.1
  have hb := S.2.1
  have hown : s.vm.findClass RX7 = some m.cls := S.2.2.2.1
  have hts := S.2.2.2.2
  have hl : lv_has ls 1 [(0, .ref (t.2.1 (600 + (8 * 1 + n))))] := hl
  refine lv_aload_n hx hb dX7_bears_0 rfl (lv_at hl 0 rfl) ?_
  refine lv_aload_n hx hb dX7_bears_1 rfl (lv_at hl 0 rfl) ?_
  refine kk_Ri ((va_runSU (As := []) (rest := [.ref (t.2.1 (600 + (8 * 1 + n)))]) (C := RX7) (hK.1.1 7 _ rfl).2 S (k1_X6_bears l t r x n b hn hV) (va_cwSU 0 hts (lw_SU q627 q623 q336 q621 q110 q638) rfl rfl rfl (by decide +kernel) ⟨Nat.le_of_ble_eq_true rfl, Nat.le_of_ble_eq_true rfl⟩) ⟨c_blind, c_recv1 hK hP hn, c_pre hK hP⟩ rfl rfl hl.1 rfl (lv_room (Nat.le_of_ble_eq_true rfl)) dX7_bears_2 ⟨Nat.le_refl _, Nat.le_refl _⟩).run) ?_
  refine kk_Ri (ch_run (As := [.int ((p_plain r n))]) (C := RX7) (x0 := ⟨"ThunderCasks$Crack", "half", "(I)I"⟩) (owner := "ThunderCasks$Thunders") (maxL := 2) S (kX14_half l (t.2.1 (600 + (8 * 1 + n))) ((p_plain r n))) (fun _ _ _ _ h => ⟨_, h.1⟩) rfl rfl (Nat.le_of_ble_eq_true rfl) (Nat.le_of_ble_eq_true rfl) q570 (hK.2.2.2.2.2.2.2.2.1).2.1 (hK.2.2.2.2.2.2.2.2.1).2.2 rfl ⟨by decide, by decide⟩ (hK.2.2.2.2.2.2.2.2.2.1 _ (List.mem_of_getElem? (i := 2) rfl)) (hts _ q568) (show (parseMethodDescriptor yX14_half.desc).map (fun d => d.parameters.length) = some 1 from by decide +kernel) ⟨kk_blindT, c_recv1 hK hP hn, fun U hU hW => ⟨rfl, trivial⟩⟩ rfl hl.1 rfl (lv_room (Nat.le_of_ble_eq_true rfl)) dX7_bears_5 ⟨Nat.le_refl _, Nat.le_refl _⟩) ?_
  exact kk_iretR S hr hlk rfl rfl (rfl) dX7_bears_8
set_option maxHeartbeats 4000000 in
set_option maxRecDepth 100000 in
theorem k2_X6_told (l : Launch) (t : CT) (r : Rw) (x : Nat → Rw) (n : Nat) (w : Nat) (hn : n < 8) (hw : w < 7) : Met l yX6_told (ws_ yX6_told cX6_told 2 (some .int)) (rmF 0) (va_Pc [.ref (t.2.1 (600 + (8 * 2 + n))), .int (nI w)] (fun U => cK t U ∧ cX t r x U.heap)) (kR (some (.int (r (16 + 7 * n + w))))) 0 0 (fun _ => False) := by
  refine kk_start (by decide) (Nat.le_of_ble_eq_true rfl) ?_
  intro p e s m below meth c S hr hlk hin hB ls hl
  obtain ⟨hK, hP⟩ := hB
  have hx := S.1
  have hb := S.2.1
  have hown : s.vm.findClass RX6 = some m.cls := S.2.2.2.1
  have hts := S.2.2.2.2
  have hl : lv_has ls 2 [(0, .ref (t.2.1 (600 + (8 * 2 + n)))), (1, .int ((nI w)))] := hl
  refine lv_aload_n hx hb dX6_told_0 rfl (lv_at hl 0 rfl) ?_
  refine co_get (v := .ref (t.2.1 0)) S hK.1 (ci := 8) (T := TX8) (N := 3) rfl in_X8 (hP.ob 2 n (by decide) hn) 1 (by decide) (hts _ q329) rfl rfl dX6_told_1 ?_
  refine co_getN (v := .ref (t.2.1 100)) S hK.1 (ci := 0) (T := TX0) (N := 12) rfl in_X0 (hP 0 0 (by decide) (by decide)) 3 (by decide) (hK.f (w := ("ThunderCasks$Cask", 23, "ThunderCasks", "d", "LThunderCasks$World;", "ThunderCasks")) 21 rfl _) rfl rfl dX6_told_4 ?_
  refine ck6_cask S hK hP dX6_told_7 ?_
  refine lv_iload_n hx hb dX6_told_10 rfl (lv_at hl 1 rfl) ?_
  refine ck_aald S hK hP (w) (by omega) rfl dX6_told_11 ?_
  refine lv_aload_n hx hb dX6_told_12 rfl (lv_at hl 0 rfl) ?_
  refine co_get (v := .int (nI n)) S hK.1 (ci := 8) (T := TX8) (N := 3) rfl in_X8 (hP.ob 2 n (by decide) hn) 0 (by decide) (hts _ q327) rfl rfl dX6_told_13 ?_
  refine ck_ldc S hK hP (w) (by omega) (n) (by omega) rfl dX6_told_16 ?_
  exact kk_iretR S hr hlk rfl rfl (rfl) dX6_told_17
set_option maxHeartbeats 4000000 in
set_option maxRecDepth 100000 in
theorem k2_X6_kind (l : Launch) (t : CT) (r : Rw) (x : Nat → Rw) (n : Nat) (hn : n < 8) : Met l yX6_kind (ws_ yX6_kind cX6_kind 1 (some .int)) (rmF 0) (va_Pc [.ref (t.2.1 (600 + (8 * 2 + n)))] (fun U => cK t U ∧ cX t r x U.heap)) (kR (some (.int (0)))) 0 0 (fun _ => False) := by
  refine kk_start (by decide) (Nat.le_of_ble_eq_true rfl) ?_
  intro p e s m below meth c S hr hlk hin hB ls hl
  obtain ⟨hK, hP⟩ := hB
  have hx := S.1
  have hb := S.2.1
  have hown : s.vm.findClass RX6 = some m.cls := S.2.2.2.1
  have hts := S.2.2.2.2
  have hl : lv_has ls 1 [(0, .ref (t.2.1 (600 + (8 * 2 + n))))] := hl
  refine lv_iconst (v := 0) hx hb dX6_kind_0 (by decide) ?_
  exact kk_iretR S hr hlk rfl rfl (rfl) dX6_kind_1
set_option maxHeartbeats 4000000 in
set_option maxRecDepth 100000 in
theorem k2_X8_kind (l : Launch) (t : CT) (r : Rw) (x : Nat → Rw) (n : Nat) (hn : n < 8) : Met l yX8_kind (ws_ yX8_kind cX8_kind 1 (some .int)) (rmF 1) (va_Pc [.ref (t.2.1 (600 + (8 * 2 + n)))] (fun U => cK t U ∧ cX t r x U.heap)) (kR (some (.int (2)))) 0 0 (fun _ => False) := by
  refine kk_start (by decide) (Nat.le_of_ble_eq_true rfl) ?_
  intro p e s m below meth c S hr hlk hin hB ls hl
  obtain ⟨hK, hP⟩ := hB
  have hx := S.1
  have hb := S.2.1
  have hown : s.vm.findClass RX8 = some m.cls := S.2.2.2.1
  have hts := S.2.2.2.2
  have hl : lv_has ls 1 [(0, .ref (t.2.1 (600 + (8 * 2 + n))))] := hl
  refine lv_iconst (v := 2) hx hb dX8_kind_0 (by decide) ?_
  refine lv_aload_n hx hb dX8_kind_1 rfl (lv_at hl 0 rfl) ?_
  refine kk_Ri ((va_runSU (As := []) (rest := [.int (2)]) (C := RX8) (hK.1.1 8 _ rfl).2 S (k2_X6_kind l t r x n hn) (va_cwSU 0 hts (lw_SU q520 q506 q348 q504 q110 q531) rfl rfl rfl (by decide +kernel) ⟨Nat.le_of_ble_eq_true rfl, Nat.le_of_ble_eq_true rfl⟩) ⟨c_blind, c_recv2 hK hP hn, c_pre hK hP⟩ rfl rfl hl.1 rfl (lv_room (Nat.le_of_ble_eq_true rfl)) dX8_kind_2 ⟨Nat.le_refl _, Nat.le_refl _⟩).run) ?_
  refine lv_iadd hx hb dX8_kind_5 ?_
  exact kk_iretR S hr hlk rfl rfl (by decide) dX8_kind_6
set_option maxHeartbeats 4000000 in
set_option maxRecDepth 100000 in
theorem k2_X6_isUnder (l : Launch) (t : CT) (r : Rw) (x : Nat → Rw) (n : Nat) (v : Int32) (hn : n < 8) : Met l yX6_isUnder (ws_ yX6_isUnder cX6_isUnder 2 (some .boolean)) (rmF 2) (va_Pc [.ref (t.2.1 (600 + (8 * 2 + n))), .int v] (fun U => cK t U ∧ cX t r x U.heap)) (kR (some (.int (b2i ((v = 0 ∨ v = 2)))))) 0 0 (fun _ => False) := by
  refine kk_start (by decide) (Nat.le_of_ble_eq_true rfl) ?_
  intro p e s m below meth c S hr hlk hin hB ls hl
  obtain ⟨hK, hP⟩ := hB
  have hx := S.1
  have hb := S.2.1
  have hown : s.vm.findClass RX6 = some m.cls := S.2.2.2.1
  have hts := S.2.2.2.2
  have hl : lv_has ls 2 [(0, .ref (t.2.1 (600 + (8 * 2 + n)))), (1, .int (v))] := hl
  refine lv_iload_n hx hb dX6_isUnder_0 rfl (lv_at hl 1 rfl) ?_
  refine lv_if_eq (tgt := 12) hx hb dX6_isUnder_1 (by decide) (fun c_1 => ?_) (fun c_1 => ?_)
  · skip
    refine lv_iconst (v := 1) hx hb dX6_isUnder_12 (by decide) ?_
    refine lv_goto (tgt := 17) hx hb dX6_isUnder_13 (by decide) ?_
    exact kk_ztR S hr hlk rfl rfl (by grind) dX6_isUnder_17
  · skip
    refine lv_iload_n hx hb dX6_isUnder_4 rfl (lv_at hl 1 rfl) ?_
    refine lv_aload_n hx hb dX6_isUnder_5 rfl (lv_at hl 0 rfl) ?_
    refine kk_Ri ((va_runU (As := []) (rest := [.int (v)]) (C := RX8) (owner := "ThunderCasks$Cask") S (k2_X8_kind l t r x n hn) (va_cwO 0 hts (lw_O q1166 q506 q504 q530 q518 q112 q519) rfl rfl rfl q531 (by decide +kernel) ⟨Nat.le_of_ble_eq_true rfl, Nat.le_of_ble_eq_true rfl⟩) ⟨c_blind, c_recv2 hK hP hn, c_pre hK hP⟩ rfl rfl hl.1 rfl (lv_room (Nat.le_of_ble_eq_true rfl)) dX6_isUnder_6 ⟨Nat.le_refl _, Nat.le_refl _⟩).run) ?_
    refine lv_icmp_ne (tgt := 16) hx hb dX6_isUnder_9 (by decide) (fun c_9 => ?_) (fun c_9 => ?_)
    · skip
      refine lv_iconst (v := 0) hx hb dX6_isUnder_16 (by decide) ?_
      exact kk_zfR S hr hlk rfl rfl (by grind) dX6_isUnder_17
    · skip
      refine lv_iconst (v := 1) hx hb dX6_isUnder_12 (by decide) ?_
      refine lv_goto (tgt := 17) hx hb dX6_isUnder_13 (by decide) ?_
      exact kk_ztR S hr hlk rfl rfl (by grind) dX6_isUnder_17
set_option maxHeartbeats 4000000 in
set_option maxRecDepth 100000 in
theorem k2_X8_isUnder (l : Launch) (t : CT) (r : Rw) (x : Nat → Rw) (n : Nat) (v : Int32) (hn : n < 8) : Met l yX8_isUnder (ws_ yX8_isUnder cX8_isUnder 2 (some .boolean)) (rmF 3) (va_Pc [.ref (t.2.1 (600 + (8 * 2 + n))), .int v] (fun U => cK t U ∧ cX t r x U.heap)) (kR (some (.int (b2i ((v = 2 ∨ (v = 0 ∨ v = 2))))))) 0 0 (fun _ => False) := by
  refine kk_start (by decide) (Nat.le_of_ble_eq_true rfl) ?_
  intro p e s m below meth c S hr hlk hin hB ls hl
  obtain ⟨hK, hP⟩ := hB
  have hx := S.1
  have hb := S.2.1
  have hown : s.vm.findClass RX8 = some m.cls := S.2.2.2.1
  have hts := S.2.2.2.2
  have hl : lv_has ls 2 [(0, .ref (t.2.1 (600 + (8 * 2 + n)))), (1, .int (v))] := hl
  refine lv_iload_n hx hb dX8_isUnder_0 rfl (lv_at hl 1 rfl) ?_
  refine lv_iconst (v := 2) hx hb dX8_isUnder_1 (by decide) ?_
  refine lv_icmp_eq (tgt := 13) hx hb dX8_isUnder_2 (by decide) (fun c_2 => ?_) (fun c_2 => ?_)
  · skip
    refine lv_iconst (v := 1) hx hb dX8_isUnder_13 (by decide) ?_
    refine lv_goto (tgt := 18) hx hb dX8_isUnder_14 (by decide) ?_
    exact kk_ztR S hr hlk rfl rfl (by grind) dX8_isUnder_18
  · skip
    refine lv_aload_n hx hb dX8_isUnder_5 rfl (lv_at hl 0 rfl) ?_
    refine lv_iload_n hx hb dX8_isUnder_6 rfl (lv_at hl 1 rfl) ?_
    refine kk_Ri ((va_runSU (As := [.int v]) (rest := []) (C := RX8) (hK.1.1 8 _ rfl).2 S (k2_X6_isUnder l t r x n v hn) (va_cwSU 1 hts (lw_SU q1160 q1149 q348 q1147 q110 q1165) rfl rfl rfl (by decide +kernel) ⟨Nat.le_of_ble_eq_true rfl, Nat.le_of_ble_eq_true rfl⟩) ⟨c_blind, c_recv2 hK hP hn, c_pre hK hP⟩ rfl rfl hl.1 rfl (lv_room (Nat.le_of_ble_eq_true rfl)) dX8_isUnder_7 ⟨Nat.le_refl _, Nat.le_refl _⟩).run) ?_
    refine kb_ifeq (tgt := 17) S dX8_isUnder_10 (by decide) (fun c_10 => ?_) (fun c_10 => ?_)
    · skip
      refine lv_iconst (v := 0) hx hb dX8_isUnder_17 (by decide) ?_
      exact kk_zfR S hr hlk rfl rfl (by grind) dX8_isUnder_18
    · skip
      refine lv_iconst (v := 1) hx hb dX8_isUnder_13 (by decide) ?_
      refine lv_goto (tgt := 18) hx hb dX8_isUnder_14 (by decide) ?_
      exact kk_ztR S hr hlk rfl rfl (by grind) dX8_isUnder_18
set_option maxHeartbeats 4000000 in
set_option maxRecDepth 100000 in
theorem k2_X6_loud (l : Launch) (t : CT) (r : Rw) (x : Nat → Rw) (n : Nat) (hn : n < 8) : Met l yX6_loud (ws_ yX6_loud cX6_loud 1 (some .int)) (rmF 1) (va_Pc [.ref (t.2.1 (600 + (8 * 2 + n)))] (fun U => cK t U ∧ cX t r x U.heap)) (kR (some (.int (r (16 + 7 * n + 2))))) 0 0 (fun _ => False) := by
  refine kk_start (by decide) (Nat.le_of_ble_eq_true rfl) ?_
  intro p e s m below meth c S hr hlk hin hB ls hl
  obtain ⟨hK, hP⟩ := hB
  have hx := S.1
  have hb := S.2.1
  have hown : s.vm.findClass RX6 = some m.cls := S.2.2.2.1
  have hts := S.2.2.2.2
  have hl : lv_has ls 1 [(0, .ref (t.2.1 (600 + (8 * 2 + n))))] := hl
  refine lv_aload_n hx hb dX6_loud_0 rfl (lv_at hl 0 rfl) ?_
  refine lv_iconst (v := 2) hx hb dX6_loud_1 (by decide) ?_
  refine kk_Ri ((va_runU (As := [.int (nI 2)]) (rest := []) (C := RX8) (owner := "ThunderCasks$Cask") S (k2_X6_told l t r x n 2 hn (by decide)) (va_cwU 1 hts (lw_U q597 q1714 q1721 q545 q110 q546) rfl rfl rfl rfl (by decide +kernel) ⟨Nat.le_of_ble_eq_true rfl, Nat.le_of_ble_eq_true rfl⟩) ⟨c_blind, c_recv2 hK hP hn, c_pre hK hP⟩ rfl rfl hl.1 rfl (lv_room (Nat.le_of_ble_eq_true rfl)) dX6_loud_2 ⟨Nat.le_refl _, Nat.le_refl _⟩).run) ?_
  exact kk_iretR S hr hlk rfl rfl (rfl) dX6_loud_5
set_option maxHeartbeats 4000000 in
set_option maxRecDepth 100000 in
theorem k2_X8_loud (l : Launch) (t : CT) (r : Rw) (x : Nat → Rw) (n : Nat) (hn : n < 8) : Met l yX8_loud (ws_ yX8_loud cX8_loud 2 (some .int)) (rmF 2) (va_Pc [.ref (t.2.1 (600 + (8 * 2 + n)))] (fun U => cK t U ∧ cX t r x U.heap)) (kR (some (.int (p_roll r n)))) 0 0 (fun _ => False) := by
  refine kk_start (by decide) (Nat.le_of_ble_eq_true rfl) ?_
  intro p e s m below meth c S hr hlk hin hB ls hl
  obtain ⟨hK, hP⟩ := hB
  have hx := S.1
  have hb := S.2.1
  have hown : s.vm.findClass RX8 = some m.cls := S.2.2.2.1
  have hts := S.2.2.2.2
  have hl : lv_has ls 2 [(0, .ref (t.2.1 (600 + (8 * 2 + n))))] := hl
  refine lv_aload_n hx hb dX8_loud_0 rfl (lv_at hl 0 rfl) ?_
  refine kk_Ri ((va_runSU (As := []) (rest := []) (C := RX8) (hK.1.1 8 _ rfl).2 S (k2_X6_loud l t r x n hn) (va_cwSU 0 hts (lw_SU q559 q535 q348 q533 q110 q596) rfl rfl rfl (by decide +kernel) ⟨Nat.le_of_ble_eq_true rfl, Nat.le_of_ble_eq_true rfl⟩) ⟨c_blind, c_recv2 hK hP hn, c_pre hK hP⟩ rfl rfl hl.1 rfl (lv_room (Nat.le_of_ble_eq_true rfl)) dX8_loud_1 ⟨Nat.le_refl _, Nat.le_refl _⟩).run) ?_
  refine lv_istore_n (lv' := [(1, .int (r (16 + 7 * n + 2))), (0, .ref (t.2.1 (600 + (8 * 2 + n))))]) hx hb dX8_loud_4 rfl hl (by decide) rfl (fun ls hl => ?_)
  refine lv_iload_n hx hb dX8_loud_5 rfl (lv_at hl 0 rfl) ?_
  refine lv_iload_n hx hb dX8_loud_6 rfl (lv_at hl 0 rfl) ?_
  refine lv_iconst (v := 4) hx hb dX8_loud_7 (by decide) ?_
  refine lv_idiv hx hb dX8_loud_8 (by decide) ?_
  refine lv_isub hx hb dX8_loud_9 ?_
  refine lv_aload_n hx hb dX8_loud_10 rfl (lv_at hl 1 rfl) ?_
  refine lv_iconst (v := 5) hx hb dX8_loud_11 (by decide) ?_
  refine kk_Ri ((va_runU (As := [.int (nI 5)]) (rest := [.int ((r (16 + 7 * n + 2) - (r (16 + 7 * n + 2) / 4)))]) (C := RX8) (owner := "ThunderCasks$Cask") S (k2_X6_told l t r x n 5 hn (by decide)) (va_cwU 1 hts (lw_U q560 q561 q564 q545 q110 q546) rfl rfl rfl rfl (by decide +kernel) ⟨Nat.le_of_ble_eq_true rfl, Nat.le_of_ble_eq_true rfl⟩) ⟨c_blind, c_recv2 hK hP hn, c_pre hK hP⟩ rfl rfl hl.1 rfl (lv_room (Nat.le_of_ble_eq_true rfl)) dX8_loud_12 ⟨Nat.le_refl _, Nat.le_refl _⟩).run) ?_
  refine lv_iadd hx hb dX8_loud_15 ?_
  exact kk_iretR S hr hlk rfl rfl (rfl) dX8_loud_16
set_option maxHeartbeats 4000000 in
set_option maxRecDepth 100000 in
theorem k2_X6_leaks (l : Launch) (t : CT) (r : Rw) (x : Nat → Rw) (n : Nat) (hn : n < 8) : Met l yX6_leaks (ws_ yX6_leaks cX6_leaks 1 (some .int)) (rmF 0) (va_Pc [.ref (t.2.1 (600 + (8 * 2 + n)))] (fun U => cK t U ∧ cX t r x U.heap)) (kR (some (.int (1)))) 0 0 (fun _ => False) := by
  refine kk_start (by decide) (Nat.le_of_ble_eq_true rfl) ?_
  intro p e s m below meth c S hr hlk hin hB ls hl
  obtain ⟨hK, hP⟩ := hB
  have hx := S.1
  have hb := S.2.1
  have hown : s.vm.findClass RX6 = some m.cls := S.2.2.2.1
  have hts := S.2.2.2.2
  have hl : lv_has ls 1 [(0, .ref (t.2.1 (600 + (8 * 2 + n))))] := hl
  refine lv_iconst (v := 1) hx hb dX6_leaks_0 (by decide) ?_
  exact kk_iretR S hr hlk rfl rfl (rfl) dX6_leaks_1
set_option maxHeartbeats 4000000 in
set_option maxRecDepth 100000 in
theorem k2_X6_bears (l : Launch) (t : CT) (r : Rw) (x : Nat → Rw) (n : Nat) (b : Nat) (hn : n < 8) (hV : pV b r) : Met l yX6_bears (ws_ yX6_bears cX6_bears 1 (some .int)) (rmF 1) (va_Pc [.ref (t.2.1 (600 + (8 * 2 + n)))] (fun U => cK t U ∧ cX t r x U.heap)) (kR (some (.int (p_plain r n)))) 0 0 (fun _ => False) := by
  refine kk_start (by decide) (Nat.le_of_ble_eq_true rfl) ?_
  intro p e s m below meth c S hr hlk hin hB ls hl
  obtain ⟨hK, hP⟩ := hB
  have hx := S.1
  have hb := S.2.1
  have hown : s.vm.findClass RX6 = some m.cls := S.2.2.2.1
  have hts := S.2.2.2.2
  have hl : lv_has ls 1 [(0, .ref (t.2.1 (600 + (8 * 2 + n))))] := hl
  have hc1 := hV.c hn
  refine lv_iconst (v := 0) hx hb dX6_bears_0 (by decide) ?_
  refine lv_aload_n hx hb dX6_bears_1 rfl (lv_at hl 0 rfl) ?_
  refine lv_iconst (v := 4) hx hb dX6_bears_2 (by decide) ?_
  refine kk_Ri ((va_runU (As := [.int (nI 4)]) (rest := [.int (0)]) (C := RX8) (owner := "ThunderCasks$Cask") S (k2_X6_told l t r x n 4 hn (by decide)) (va_cwU 1 hts (lw_U q597 q1714 q1721 q545 q110 q546) rfl rfl rfl rfl (by decide +kernel) ⟨Nat.le_of_ble_eq_true rfl, Nat.le_of_ble_eq_true rfl⟩) ⟨c_blind, c_recv2 hK hP hn, c_pre hK hP⟩ rfl rfl hl.1 rfl (lv_room (Nat.le_of_ble_eq_true rfl)) dX6_bears_3 ⟨Nat.le_refl _, Nat.le_refl _⟩).run) ?_
  refine lv_iconst (v := 5) hx hb dX6_bears_6 (by decide) ?_
  refine lv_aload_n hx hb dX6_bears_7 rfl (lv_at hl 0 rfl) ?_
  refine co_get (v := .ref (t.2.1 0)) S hK.1 (ci := 8) (T := TX8) (N := 3) rfl in_X8 (hP.ob 2 n (by decide) hn) 1 (by decide) (hts _ q329) rfl rfl dX6_bears_8 ?_
  refine co_getN (v := .ref (t.2.1 100)) S hK.1 (ci := 0) (T := TX0) (N := 12) rfl in_X0 (hP 0 0 (by decide) (by decide)) 3 (by decide) (hK.f (w := ("ThunderCasks$Cask", 23, "ThunderCasks", "d", "LThunderCasks$World;", "ThunderCasks")) 21 rfl _) rfl rfl dX6_bears_11 ?_
  refine ck6_frost S hK hP dX6_bears_14 ?_
  refine lv_aload_n hx hb dX6_bears_17 rfl (lv_at hl 0 rfl) ?_
  refine lv_iconst (v := 1) hx hb dX6_bears_18 (by decide) ?_
  refine kk_Ri ((va_runU (As := [.int (nI 1)]) (rest := [.ref (t.2.1 101), .int (5), .int (r (16 + 7 * n + 4)), .int (0)]) (C := RX8) (owner := "ThunderCasks$Cask") S (k2_X6_told l t r x n 1 hn (by decide)) (va_cwU 1 hts (lw_U q597 q1714 q1721 q545 q110 q546) rfl rfl rfl rfl (by decide +kernel) ⟨Nat.le_of_ble_eq_true rfl, Nat.le_of_ble_eq_true rfl⟩) ⟨c_blind, c_recv2 hK hP hn, c_pre hK hP⟩ rfl rfl hl.1 rfl (lv_room (Nat.le_of_ble_eq_true rfl)) dX6_bears_19 ⟨Nat.le_refl _, Nat.le_refl _⟩).run) ?_
  refine ck_ldf S hK hP ((pC r n)) hc1.2 hc1.1 dX6_bears_22 ?_
  refine lv_imul hx hb dX6_bears_23 ?_
  refine lv_isub hx hb dX6_bears_24 ?_
  refine c6_max S (rm_ok (Nat.le_of_ble_eq_true rfl)) hl.1 (Nat.le_of_ble_eq_true rfl) dX6_bears_25 ?_
  exact kk_iretR S hr hlk rfl rfl (rfl) dX6_bears_28
set_option maxHeartbeats 4000000 in
set_option maxRecDepth 100000 in
theorem k2_X8_bears (l : Launch) (t : CT) (r : Rw) (x : Nat → Rw) (n : Nat) (b : Nat) (hn : n < 8) (hV : pV b r) : Met l yX8_bears (ws_ yX8_bears cX8_bears 1 (some .int)) (rmF 2) (va_Pc [.ref (t.2.1 (600 + (8 * 2 + n)))] (fun U => cK t U ∧ cX t r x U.heap)) (kR (some (.int (p_plain r n + 10)))) 0 0 (fun _ => False) := by
  refine kk_start (by decide) (Nat.le_of_ble_eq_true rfl) ?_
  intro p e s m below meth c S hr hlk hin hB ls hl
  obtain ⟨hK, hP⟩ := hB
  have hx := S.1
  have hb := S.2.1
  have hown : s.vm.findClass RX8 = some m.cls := S.2.2.2.1
  have hts := S.2.2.2.2
  have hl : lv_has ls 1 [(0, .ref (t.2.1 (600 + (8 * 2 + n))))] := hl
  refine lv_aload_n hx hb dX8_bears_0 rfl (lv_at hl 0 rfl) ?_
  refine kk_Ri ((va_runSU (As := []) (rest := []) (C := RX8) (hK.1.1 8 _ rfl).2 S (k2_X6_bears l t r x n b hn hV) (va_cwSU 0 hts (lw_SU q633 q623 q348 q621 q110 q638) rfl rfl rfl (by decide +kernel) ⟨Nat.le_of_ble_eq_true rfl, Nat.le_of_ble_eq_true rfl⟩) ⟨c_blind, c_recv2 hK hP hn, c_pre hK hP⟩ rfl rfl hl.1 rfl (lv_room (Nat.le_of_ble_eq_true rfl)) dX8_bears_1 ⟨Nat.le_refl _, Nat.le_refl _⟩).run) ?_
  refine lv_bipush (v := 10) hx hb dX8_bears_4 (by decide) ?_
  refine lv_iadd hx hb dX8_bears_6 ?_
  exact kk_iretR S hr hlk rfl rfl (rfl) dX8_bears_7
set_option maxHeartbeats 4000000 in
set_option maxRecDepth 100000 in
theorem k3_X6_told (l : Launch) (t : CT) (r : Rw) (x : Nat → Rw) (n : Nat) (w : Nat) (hn : n < 8) (hw : w < 7) : Met l yX6_told (ws_ yX6_told cX6_told 2 (some .int)) (rmF 0) (va_Pc [.ref (t.2.1 (600 + (8 * 3 + n))), .int (nI w)] (fun U => cK t U ∧ cX t r x U.heap)) (kR (some (.int (r (16 + 7 * n + w))))) 0 0 (fun _ => False) := by
  refine kk_start (by decide) (Nat.le_of_ble_eq_true rfl) ?_
  intro p e s m below meth c S hr hlk hin hB ls hl
  obtain ⟨hK, hP⟩ := hB
  have hx := S.1
  have hb := S.2.1
  have hown : s.vm.findClass RX6 = some m.cls := S.2.2.2.1
  have hts := S.2.2.2.2
  have hl : lv_has ls 2 [(0, .ref (t.2.1 (600 + (8 * 3 + n)))), (1, .int ((nI w)))] := hl
  refine lv_aload_n hx hb dX6_told_0 rfl (lv_at hl 0 rfl) ?_
  refine co_get (v := .ref (t.2.1 0)) S hK.1 (ci := 9) (T := TX9) (N := 4) rfl in_X9 (hP.ob 3 n (by decide) hn) 1 (by decide) (hts _ q329) rfl rfl dX6_told_1 ?_
  refine co_getN (v := .ref (t.2.1 100)) S hK.1 (ci := 0) (T := TX0) (N := 12) rfl in_X0 (hP 0 0 (by decide) (by decide)) 3 (by decide) (hK.f (w := ("ThunderCasks$Cask", 23, "ThunderCasks", "d", "LThunderCasks$World;", "ThunderCasks")) 21 rfl _) rfl rfl dX6_told_4 ?_
  refine ck6_cask S hK hP dX6_told_7 ?_
  refine lv_iload_n hx hb dX6_told_10 rfl (lv_at hl 1 rfl) ?_
  refine ck_aald S hK hP (w) (by omega) rfl dX6_told_11 ?_
  refine lv_aload_n hx hb dX6_told_12 rfl (lv_at hl 0 rfl) ?_
  refine co_get (v := .int (nI n)) S hK.1 (ci := 9) (T := TX9) (N := 4) rfl in_X9 (hP.ob 3 n (by decide) hn) 0 (by decide) (hts _ q327) rfl rfl dX6_told_13 ?_
  refine ck_ldc S hK hP (w) (by omega) (n) (by omega) rfl dX6_told_16 ?_
  exact kk_iretR S hr hlk rfl rfl (rfl) dX6_told_17
set_option maxHeartbeats 4000000 in
set_option maxRecDepth 100000 in
theorem k3_X6_kind (l : Launch) (t : CT) (r : Rw) (x : Nat → Rw) (n : Nat) (hn : n < 8) : Met l yX6_kind (ws_ yX6_kind cX6_kind 1 (some .int)) (rmF 0) (va_Pc [.ref (t.2.1 (600 + (8 * 3 + n)))] (fun U => cK t U ∧ cX t r x U.heap)) (kR (some (.int (0)))) 0 0 (fun _ => False) := by
  refine kk_start (by decide) (Nat.le_of_ble_eq_true rfl) ?_
  intro p e s m below meth c S hr hlk hin hB ls hl
  obtain ⟨hK, hP⟩ := hB
  have hx := S.1
  have hb := S.2.1
  have hown : s.vm.findClass RX6 = some m.cls := S.2.2.2.1
  have hts := S.2.2.2.2
  have hl : lv_has ls 1 [(0, .ref (t.2.1 (600 + (8 * 3 + n))))] := hl
  refine lv_iconst (v := 0) hx hb dX6_kind_0 (by decide) ?_
  exact kk_iretR S hr hlk rfl rfl (rfl) dX6_kind_1
set_option maxHeartbeats 4000000 in
set_option maxRecDepth 100000 in
theorem k3_X8_kind (l : Launch) (t : CT) (r : Rw) (x : Nat → Rw) (n : Nat) (hn : n < 8) : Met l yX8_kind (ws_ yX8_kind cX8_kind 1 (some .int)) (rmF 1) (va_Pc [.ref (t.2.1 (600 + (8 * 3 + n)))] (fun U => cK t U ∧ cX t r x U.heap)) (kR (some (.int (2)))) 0 0 (fun _ => False) := by
  refine kk_start (by decide) (Nat.le_of_ble_eq_true rfl) ?_
  intro p e s m below meth c S hr hlk hin hB ls hl
  obtain ⟨hK, hP⟩ := hB
  have hx := S.1
  have hb := S.2.1
  have hown : s.vm.findClass RX8 = some m.cls := S.2.2.2.1
  have hts := S.2.2.2.2
  have hl : lv_has ls 1 [(0, .ref (t.2.1 (600 + (8 * 3 + n))))] := hl
  refine lv_iconst (v := 2) hx hb dX8_kind_0 (by decide) ?_
  refine lv_aload_n hx hb dX8_kind_1 rfl (lv_at hl 0 rfl) ?_
  refine kk_Ri ((va_runSU (As := []) (rest := [.int (2)]) (C := RX9) (hK.1.1 9 _ rfl).2 S (k3_X6_kind l t r x n hn) (va_cwSU 0 hts (lw_SU q520 q506 q348 q504 q110 q531) rfl rfl rfl (by decide +kernel) ⟨Nat.le_of_ble_eq_true rfl, Nat.le_of_ble_eq_true rfl⟩) ⟨c_blind, c_recv3 hK hP hn, c_pre hK hP⟩ rfl rfl hl.1 rfl (lv_room (Nat.le_of_ble_eq_true rfl)) dX8_kind_2 ⟨Nat.le_refl _, Nat.le_refl _⟩).run) ?_
  refine lv_iadd hx hb dX8_kind_5 ?_
  exact kk_iretR S hr hlk rfl rfl (by decide) dX8_kind_6
set_option maxHeartbeats 4000000 in
set_option maxRecDepth 100000 in
theorem k3_X9_kind (l : Launch) (t : CT) (r : Rw) (x : Nat → Rw) (n : Nat) (hn : n < 8) : Met l yX9_kind (ws_ yX9_kind cX9_kind 1 (some .int)) (rmF 2) (va_Pc [.ref (t.2.1 (600 + (8 * 3 + n)))] (fun U => cK t U ∧ cX t r x U.heap)) (kR (some (.int (3)))) 0 0 (fun _ => False) := by
  refine kk_start (by decide) (Nat.le_of_ble_eq_true rfl) ?_
  intro p e s m below meth c S hr hlk hin hB ls hl
  obtain ⟨hK, hP⟩ := hB
  have hx := S.1
  have hb := S.2.1
  have hown : s.vm.findClass RX9 = some m.cls := S.2.2.2.1
  have hts := S.2.2.2.2
  have hl : lv_has ls 1 [(0, .ref (t.2.1 (600 + (8 * 3 + n))))] := hl
  refine lv_iconst (v := 1) hx hb dX9_kind_0 (by decide) ?_
  refine lv_aload_n hx hb dX9_kind_1 rfl (lv_at hl 0 rfl) ?_
  refine kk_Ri ((va_runSU (As := []) (rest := [.int (1)]) (C := RX9) (hK.1.1 9 _ rfl).2 S (k3_X8_kind l t r x n hn) (va_cwSU 0 hts (lw_SU q517 q1709 q361 q518 q112 q519) rfl rfl rfl (by decide +kernel) ⟨Nat.le_of_ble_eq_true rfl, Nat.le_of_ble_eq_true rfl⟩) ⟨c_blind, c_recv3 hK hP hn, c_pre hK hP⟩ rfl rfl hl.1 rfl (lv_room (Nat.le_of_ble_eq_true rfl)) dX9_kind_2 ⟨Nat.le_refl _, Nat.le_refl _⟩).run) ?_
  refine lv_iadd hx hb dX9_kind_5 ?_
  exact kk_iretR S hr hlk rfl rfl (by decide) dX9_kind_6
set_option maxHeartbeats 4000000 in
set_option maxRecDepth 100000 in
theorem k3_X6_isUnder (l : Launch) (t : CT) (r : Rw) (x : Nat → Rw) (n : Nat) (v : Int32) (hn : n < 8) : Met l yX6_isUnder (ws_ yX6_isUnder cX6_isUnder 2 (some .boolean)) (rmF 3) (va_Pc [.ref (t.2.1 (600 + (8 * 3 + n))), .int v] (fun U => cK t U ∧ cX t r x U.heap)) (kR (some (.int (b2i ((v = 0 ∨ v = 3)))))) 0 0 (fun _ => False) := by
  refine kk_start (by decide) (Nat.le_of_ble_eq_true rfl) ?_
  intro p e s m below meth c S hr hlk hin hB ls hl
  obtain ⟨hK, hP⟩ := hB
  have hx := S.1
  have hb := S.2.1
  have hown : s.vm.findClass RX6 = some m.cls := S.2.2.2.1
  have hts := S.2.2.2.2
  have hl : lv_has ls 2 [(0, .ref (t.2.1 (600 + (8 * 3 + n)))), (1, .int (v))] := hl
  refine lv_iload_n hx hb dX6_isUnder_0 rfl (lv_at hl 1 rfl) ?_
  refine lv_if_eq (tgt := 12) hx hb dX6_isUnder_1 (by decide) (fun c_1 => ?_) (fun c_1 => ?_)
  · skip
    refine lv_iconst (v := 1) hx hb dX6_isUnder_12 (by decide) ?_
    refine lv_goto (tgt := 17) hx hb dX6_isUnder_13 (by decide) ?_
    exact kk_ztR S hr hlk rfl rfl (by grind) dX6_isUnder_17
  · skip
    refine lv_iload_n hx hb dX6_isUnder_4 rfl (lv_at hl 1 rfl) ?_
    refine lv_aload_n hx hb dX6_isUnder_5 rfl (lv_at hl 0 rfl) ?_
    refine kk_Ri ((va_runU (As := []) (rest := [.int (v)]) (C := RX9) (owner := "ThunderCasks$Cask") S (k3_X9_kind l t r x n hn) (va_cwO 0 hts (lw_O q1166 q506 q504 q529 q515 q113 q516) rfl rfl rfl q531 (by decide +kernel) ⟨Nat.le_of_ble_eq_true rfl, Nat.le_of_ble_eq_true rfl⟩) ⟨c_blind, c_recv3 hK hP hn, c_pre hK hP⟩ rfl rfl hl.1 rfl (lv_room (Nat.le_of_ble_eq_true rfl)) dX6_isUnder_6 ⟨Nat.le_refl _, Nat.le_refl _⟩).run) ?_
    refine lv_icmp_ne (tgt := 16) hx hb dX6_isUnder_9 (by decide) (fun c_9 => ?_) (fun c_9 => ?_)
    · skip
      refine lv_iconst (v := 0) hx hb dX6_isUnder_16 (by decide) ?_
      exact kk_zfR S hr hlk rfl rfl (by grind) dX6_isUnder_17
    · skip
      refine lv_iconst (v := 1) hx hb dX6_isUnder_12 (by decide) ?_
      refine lv_goto (tgt := 17) hx hb dX6_isUnder_13 (by decide) ?_
      exact kk_ztR S hr hlk rfl rfl (by grind) dX6_isUnder_17
set_option maxHeartbeats 4000000 in
set_option maxRecDepth 100000 in
theorem k3_X8_isUnder (l : Launch) (t : CT) (r : Rw) (x : Nat → Rw) (n : Nat) (v : Int32) (hn : n < 8) : Met l yX8_isUnder (ws_ yX8_isUnder cX8_isUnder 2 (some .boolean)) (rmF 4) (va_Pc [.ref (t.2.1 (600 + (8 * 3 + n))), .int v] (fun U => cK t U ∧ cX t r x U.heap)) (kR (some (.int (b2i ((v = 2 ∨ (v = 0 ∨ v = 3))))))) 0 0 (fun _ => False) := by
  refine kk_start (by decide) (Nat.le_of_ble_eq_true rfl) ?_
  intro p e s m below meth c S hr hlk hin hB ls hl
  obtain ⟨hK, hP⟩ := hB
  have hx := S.1
  have hb := S.2.1
  have hown : s.vm.findClass RX8 = some m.cls := S.2.2.2.1
  have hts := S.2.2.2.2
  have hl : lv_has ls 2 [(0, .ref (t.2.1 (600 + (8 * 3 + n)))), (1, .int (v))] := hl
  refine lv_iload_n hx hb dX8_isUnder_0 rfl (lv_at hl 1 rfl) ?_
  refine lv_iconst (v := 2) hx hb dX8_isUnder_1 (by decide) ?_
  refine lv_icmp_eq (tgt := 13) hx hb dX8_isUnder_2 (by decide) (fun c_2 => ?_) (fun c_2 => ?_)
  · skip
    refine lv_iconst (v := 1) hx hb dX8_isUnder_13 (by decide) ?_
    refine lv_goto (tgt := 18) hx hb dX8_isUnder_14 (by decide) ?_
    exact kk_ztR S hr hlk rfl rfl (by grind) dX8_isUnder_18
  · skip
    refine lv_aload_n hx hb dX8_isUnder_5 rfl (lv_at hl 0 rfl) ?_
    refine lv_iload_n hx hb dX8_isUnder_6 rfl (lv_at hl 1 rfl) ?_
    refine kk_Ri ((va_runSU (As := [.int v]) (rest := []) (C := RX9) (hK.1.1 9 _ rfl).2 S (k3_X6_isUnder l t r x n v hn) (va_cwSU 1 hts (lw_SU q1160 q1149 q348 q1147 q110 q1165) rfl rfl rfl (by decide +kernel) ⟨Nat.le_of_ble_eq_true rfl, Nat.le_of_ble_eq_true rfl⟩) ⟨c_blind, c_recv3 hK hP hn, c_pre hK hP⟩ rfl rfl hl.1 rfl (lv_room (Nat.le_of_ble_eq_true rfl)) dX8_isUnder_7 ⟨Nat.le_refl _, Nat.le_refl _⟩).run) ?_
    refine kb_ifeq (tgt := 17) S dX8_isUnder_10 (by decide) (fun c_10 => ?_) (fun c_10 => ?_)
    · skip
      refine lv_iconst (v := 0) hx hb dX8_isUnder_17 (by decide) ?_
      exact kk_zfR S hr hlk rfl rfl (by grind) dX8_isUnder_18
    · skip
      refine lv_iconst (v := 1) hx hb dX8_isUnder_13 (by decide) ?_
      refine lv_goto (tgt := 18) hx hb dX8_isUnder_14 (by decide) ?_
      exact kk_ztR S hr hlk rfl rfl (by grind) dX8_isUnder_18
set_option maxHeartbeats 4000000 in
set_option maxRecDepth 100000 in
theorem k3_X9_isUnder (l : Launch) (t : CT) (r : Rw) (x : Nat → Rw) (n : Nat) (v : Int32) (hn : n < 8) : Met l yX9_isUnder (ws_ yX9_isUnder cX9_isUnder 2 (some .boolean)) (rmF 5) (va_Pc [.ref (t.2.1 (600 + (8 * 3 + n))), .int v] (fun U => cK t U ∧ cX t r x U.heap)) (kR (some (.int (b2i ((v = 3 ∨ (v = 2 ∨ (v = 0 ∨ v = 3)))))))) 0 0 (fun _ => False) := by
  refine kk_start (by decide) (Nat.le_of_ble_eq_true rfl) ?_
  intro p e s m below meth c S hr hlk hin hB ls hl
  obtain ⟨hK, hP⟩ := hB
  have hx := S.1
  have hb := S.2.1
  have hown : s.vm.findClass RX9 = some m.cls := S.2.2.2.1
  have hts := S.2.2.2.2
  have hl : lv_has ls 2 [(0, .ref (t.2.1 (600 + (8 * 3 + n)))), (1, .int (v))] := hl
  refine lv_iload_n hx hb dX9_isUnder_0 rfl (lv_at hl 1 rfl) ?_
  refine lv_iconst (v := 3) hx hb dX9_isUnder_1 (by decide) ?_
  refine lv_icmp_eq (tgt := 13) hx hb dX9_isUnder_2 (by decide) (fun c_2 => ?_) (fun c_2 => ?_)
  · skip
    refine lv_iconst (v := 1) hx hb dX9_isUnder_13 (by decide) ?_
    refine lv_goto (tgt := 18) hx hb dX9_isUnder_14 (by decide) ?_
    exact kk_ztR S hr hlk rfl rfl (by grind) dX9_isUnder_18
  · skip
    refine lv_aload_n hx hb dX9_isUnder_5 rfl (lv_at hl 0 rfl) ?_
    refine lv_iload_n hx hb dX9_isUnder_6 rfl (lv_at hl 1 rfl) ?_
    refine kk_Ri ((va_runSU (As := [.int v]) (rest := []) (C := RX9) (hK.1.1 9 _ rfl).2 S (k3_X8_isUnder l t r x n v hn) (va_cwSU 1 hts (lw_SU q1157 q1723 q361 q1158 q112 q1159) rfl rfl rfl (by decide +kernel) ⟨Nat.le_of_ble_eq_true rfl, Nat.le_of_ble_eq_true rfl⟩) ⟨c_blind, c_recv3 hK hP hn, c_pre hK hP⟩ rfl rfl hl.1 rfl (lv_room (Nat.le_of_ble_eq_true rfl)) dX9_isUnder_7 ⟨Nat.le_refl _, Nat.le_refl _⟩).run) ?_
    refine kb_ifeq (tgt := 17) S dX9_isUnder_10 (by decide) (fun c_10 => ?_) (fun c_10 => ?_)
    · skip
      refine lv_iconst (v := 0) hx hb dX9_isUnder_17 (by decide) ?_
      exact kk_zfR S hr hlk rfl rfl (by grind) dX9_isUnder_18
    · skip
      refine lv_iconst (v := 1) hx hb dX9_isUnder_13 (by decide) ?_
      refine lv_goto (tgt := 18) hx hb dX9_isUnder_14 (by decide) ?_
      exact kk_ztR S hr hlk rfl rfl (by grind) dX9_isUnder_18
set_option maxHeartbeats 4000000 in
set_option maxRecDepth 100000 in
theorem k3_X6_loud (l : Launch) (t : CT) (r : Rw) (x : Nat → Rw) (n : Nat) (hn : n < 8) : Met l yX6_loud (ws_ yX6_loud cX6_loud 1 (some .int)) (rmF 1) (va_Pc [.ref (t.2.1 (600 + (8 * 3 + n)))] (fun U => cK t U ∧ cX t r x U.heap)) (kR (some (.int (r (16 + 7 * n + 2))))) 0 0 (fun _ => False) := by
  refine kk_start (by decide) (Nat.le_of_ble_eq_true rfl) ?_
  intro p e s m below meth c S hr hlk hin hB ls hl
  obtain ⟨hK, hP⟩ := hB
  have hx := S.1
  have hb := S.2.1
  have hown : s.vm.findClass RX6 = some m.cls := S.2.2.2.1
  have hts := S.2.2.2.2
  have hl : lv_has ls 1 [(0, .ref (t.2.1 (600 + (8 * 3 + n))))] := hl
  refine lv_aload_n hx hb dX6_loud_0 rfl (lv_at hl 0 rfl) ?_
  refine lv_iconst (v := 2) hx hb dX6_loud_1 (by decide) ?_
  refine kk_Ri ((va_runU (As := [.int (nI 2)]) (rest := []) (C := RX9) (owner := "ThunderCasks$Cask") S (k3_X6_told l t r x n 2 hn (by decide)) (va_cwU 1 hts (lw_U q597 q1714 q1720 q545 q110 q546) rfl rfl rfl rfl (by decide +kernel) ⟨Nat.le_of_ble_eq_true rfl, Nat.le_of_ble_eq_true rfl⟩) ⟨c_blind, c_recv3 hK hP hn, c_pre hK hP⟩ rfl rfl hl.1 rfl (lv_room (Nat.le_of_ble_eq_true rfl)) dX6_loud_2 ⟨Nat.le_refl _, Nat.le_refl _⟩).run) ?_
  exact kk_iretR S hr hlk rfl rfl (rfl) dX6_loud_5
set_option maxHeartbeats 4000000 in
set_option maxRecDepth 100000 in
theorem k3_X8_loud (l : Launch) (t : CT) (r : Rw) (x : Nat → Rw) (n : Nat) (hn : n < 8) : Met l yX8_loud (ws_ yX8_loud cX8_loud 2 (some .int)) (rmF 2) (va_Pc [.ref (t.2.1 (600 + (8 * 3 + n)))] (fun U => cK t U ∧ cX t r x U.heap)) (kR (some (.int (p_roll r n)))) 0 0 (fun _ => False) := by
  refine kk_start (by decide) (Nat.le_of_ble_eq_true rfl) ?_
  intro p e s m below meth c S hr hlk hin hB ls hl
  obtain ⟨hK, hP⟩ := hB
  have hx := S.1
  have hb := S.2.1
  have hown : s.vm.findClass RX8 = some m.cls := S.2.2.2.1
  have hts := S.2.2.2.2
  have hl : lv_has ls 2 [(0, .ref (t.2.1 (600 + (8 * 3 + n))))] := hl
  refine lv_aload_n hx hb dX8_loud_0 rfl (lv_at hl 0 rfl) ?_
  refine kk_Ri ((va_runSU (As := []) (rest := []) (C := RX9) (hK.1.1 9 _ rfl).2 S (k3_X6_loud l t r x n hn) (va_cwSU 0 hts (lw_SU q559 q535 q348 q533 q110 q596) rfl rfl rfl (by decide +kernel) ⟨Nat.le_of_ble_eq_true rfl, Nat.le_of_ble_eq_true rfl⟩) ⟨c_blind, c_recv3 hK hP hn, c_pre hK hP⟩ rfl rfl hl.1 rfl (lv_room (Nat.le_of_ble_eq_true rfl)) dX8_loud_1 ⟨Nat.le_refl _, Nat.le_refl _⟩).run) ?_
  refine lv_istore_n (lv' := [(1, .int (r (16 + 7 * n + 2))), (0, .ref (t.2.1 (600 + (8 * 3 + n))))]) hx hb dX8_loud_4 rfl hl (by decide) rfl (fun ls hl => ?_)
  refine lv_iload_n hx hb dX8_loud_5 rfl (lv_at hl 0 rfl) ?_
  refine lv_iload_n hx hb dX8_loud_6 rfl (lv_at hl 0 rfl) ?_
  refine lv_iconst (v := 4) hx hb dX8_loud_7 (by decide) ?_
  refine lv_idiv hx hb dX8_loud_8 (by decide) ?_
  refine lv_isub hx hb dX8_loud_9 ?_
  refine lv_aload_n hx hb dX8_loud_10 rfl (lv_at hl 1 rfl) ?_
  refine lv_iconst (v := 5) hx hb dX8_loud_11 (by decide) ?_
  refine kk_Ri ((va_runU (As := [.int (nI 5)]) (rest := [.int ((r (16 + 7 * n + 2) - (r (16 + 7 * n + 2) / 4)))]) (C := RX9) (owner := "ThunderCasks$Cask") S (k3_X6_told l t r x n 5 hn (by decide)) (va_cwU 1 hts (lw_U q560 q561 q563 q545 q110 q546) rfl rfl rfl rfl (by decide +kernel) ⟨Nat.le_of_ble_eq_true rfl, Nat.le_of_ble_eq_true rfl⟩) ⟨c_blind, c_recv3 hK hP hn, c_pre hK hP⟩ rfl rfl hl.1 rfl (lv_room (Nat.le_of_ble_eq_true rfl)) dX8_loud_12 ⟨Nat.le_refl _, Nat.le_refl _⟩).run) ?_
  refine lv_iadd hx hb dX8_loud_15 ?_
  exact kk_iretR S hr hlk rfl rfl (rfl) dX8_loud_16
set_option maxHeartbeats 4000000 in
set_option maxRecDepth 100000 in
theorem k3_X9_loud (l : Launch) (t : CT) (r : Rw) (x : Nat → Rw) (n : Nat) (hn : n < 8) : Met l yX9_loud (ws_ yX9_loud cX9_loud 1 (some .int)) (rmF 3) (va_Pc [.ref (t.2.1 (600 + (8 * 3 + n)))] (fun U => cK t U ∧ cX t r x U.heap)) (kR (some (.int (p_roll r n / 2)))) 0 0 (fun _ => False) := by
  refine kk_start (by decide) (Nat.le_of_ble_eq_true rfl) ?_
  intro p e s m below meth c S hr hlk hin hB ls hl
  obtain ⟨hK, hP⟩ := hB
  have hx := S.1
  have hb := S.2.1
  have hown : s.vm.findClass RX9 = some m.cls := S.2.2.2.1
  have hts := S.2.2.2.2
  have hl : lv_has ls 1 [(0, .ref (t.2.1 (600 + (8 * 3 + n))))] := hl
  refine lv_aload_n hx hb dX9_loud_0 rfl (lv_at hl 0 rfl) ?_
  refine lv_aload_n hx hb dX9_loud_1 rfl (lv_at hl 0 rfl) ?_
  refine kk_Ri ((va_runSU (As := []) (rest := [.ref (t.2.1 (600 + (8 * 3 + n)))]) (C := RX9) (hK.1.1 9 _ rfl).2 S (k3_X8_loud l t r x n hn) (va_cwSU 0 hts (lw_SU q556 q1712 q361 q557 q112 q558) rfl rfl rfl (by decide +kernel) ⟨Nat.le_of_ble_eq_true rfl, Nat.le_of_ble_eq_true rfl⟩) ⟨c_blind, c_recv3 hK hP hn, c_pre hK hP⟩ rfl rfl hl.1 rfl (lv_room (Nat.le_of_ble_eq_true rfl)) dX9_loud_2 ⟨Nat.le_refl _, Nat.le_refl _⟩).run) ?_
  refine kk_Ri (ch_run (As := [.int ((p_roll r n))]) (C := RX9) (x0 := ⟨"ThunderCasks$Mellow", "half", "(I)I"⟩) (owner := "ThunderCasks$Thunders") (maxL := 2) S (kX14_half l (t.2.1 (600 + (8 * 3 + n))) ((p_roll r n))) (fun _ _ _ _ h => ⟨_, h.1⟩) rfl rfl (Nat.le_of_ble_eq_true rfl) (Nat.le_of_ble_eq_true rfl) q570 (hK.2.2.2.2.2.2.2.2.1).1.1 (hK.2.2.2.2.2.2.2.2.1).1.2 rfl ⟨by decide, by decide⟩ (hK.2.2.2.2.2.2.2.2.2.1 _ (List.mem_of_getElem? (i := 1) rfl)) (hts _ q568) (show (parseMethodDescriptor yX14_half.desc).map (fun d => d.parameters.length) = some 1 from by decide +kernel) ⟨kk_blindT, c_recv3 hK hP hn, fun U hU hW => ⟨rfl, trivial⟩⟩ rfl hl.1 rfl (lv_room (Nat.le_of_ble_eq_true rfl)) dX9_loud_5 ⟨Nat.le_refl _, Nat.le_refl _⟩) ?_
  exact kk_iretR S hr hlk rfl rfl (rfl) dX9_loud_8
set_option maxHeartbeats 4000000 in
set_option maxRecDepth 100000 in
theorem k3_X6_leaks (l : Launch) (t : CT) (r : Rw) (x : Nat → Rw) (n : Nat) (hn : n < 8) : Met l yX6_leaks (ws_ yX6_leaks cX6_leaks 1 (some .int)) (rmF 0) (va_Pc [.ref (t.2.1 (600 + (8 * 3 + n)))] (fun U => cK t U ∧ cX t r x U.heap)) (kR (some (.int (1)))) 0 0 (fun _ => False) := by
  refine kk_start (by decide) (Nat.le_of_ble_eq_true rfl) ?_
  intro p e s m below meth c S hr hlk hin hB ls hl
  obtain ⟨hK, hP⟩ := hB
  have hx := S.1
  have hb := S.2.1
  have hown : s.vm.findClass RX6 = some m.cls := S.2.2.2.1
  have hts := S.2.2.2.2
  have hl : lv_has ls 1 [(0, .ref (t.2.1 (600 + (8 * 3 + n))))] := hl
  refine lv_iconst (v := 1) hx hb dX6_leaks_0 (by decide) ?_
  exact kk_iretR S hr hlk rfl rfl (rfl) dX6_leaks_1
set_option maxHeartbeats 4000000 in
set_option maxRecDepth 100000 in
theorem k3_X9_leaks (l : Launch) (t : CT) (r : Rw) (x : Nat → Rw) (n : Nat) (hn : n < 8) : Met l yX9_leaks (ws_ yX9_leaks cX9_leaks 1 (some .int)) (rmF 0) (va_Pc [.ref (t.2.1 (600 + (8 * 3 + n)))] (fun U => cK t U ∧ cX t r x U.heap)) (kR (some (.int (0)))) 0 0 (fun _ => False) := by
  refine kk_start (by decide) (Nat.le_of_ble_eq_true rfl) ?_
  intro p e s m below meth c S hr hlk hin hB ls hl
  obtain ⟨hK, hP⟩ := hB
  have hx := S.1
  have hb := S.2.1
  have hown : s.vm.findClass RX9 = some m.cls := S.2.2.2.1
  have hts := S.2.2.2.2
  have hl : lv_has ls 1 [(0, .ref (t.2.1 (600 + (8 * 3 + n))))] := hl
  refine lv_iconst (v := 0) hx hb dX9_leaks_0 (by decide) ?_
  exact kk_iretR S hr hlk rfl rfl (rfl) dX9_leaks_1
set_option maxHeartbeats 4000000 in
set_option maxRecDepth 100000 in
theorem k3_X6_bears (l : Launch) (t : CT) (r : Rw) (x : Nat → Rw) (n : Nat) (b : Nat) (hn : n < 8) (hV : pV b r) : Met l yX6_bears (ws_ yX6_bears cX6_bears 1 (some .int)) (rmF 1) (va_Pc [.ref (t.2.1 (600 + (8 * 3 + n)))] (fun U => cK t U ∧ cX t r x U.heap)) (kR (some (.int (p_plain r n)))) 0 0 (fun _ => False) := by
  refine kk_start (by decide) (Nat.le_of_ble_eq_true rfl) ?_
  intro p e s m below meth c S hr hlk hin hB ls hl
  obtain ⟨hK, hP⟩ := hB
  have hx := S.1
  have hb := S.2.1
  have hown : s.vm.findClass RX6 = some m.cls := S.2.2.2.1
  have hts := S.2.2.2.2
  have hl : lv_has ls 1 [(0, .ref (t.2.1 (600 + (8 * 3 + n))))] := hl
  have hc1 := hV.c hn
  refine lv_iconst (v := 0) hx hb dX6_bears_0 (by decide) ?_
  refine lv_aload_n hx hb dX6_bears_1 rfl (lv_at hl 0 rfl) ?_
  refine lv_iconst (v := 4) hx hb dX6_bears_2 (by decide) ?_
  refine kk_Ri ((va_runU (As := [.int (nI 4)]) (rest := [.int (0)]) (C := RX9) (owner := "ThunderCasks$Cask") S (k3_X6_told l t r x n 4 hn (by decide)) (va_cwU 1 hts (lw_U q597 q1714 q1720 q545 q110 q546) rfl rfl rfl rfl (by decide +kernel) ⟨Nat.le_of_ble_eq_true rfl, Nat.le_of_ble_eq_true rfl⟩) ⟨c_blind, c_recv3 hK hP hn, c_pre hK hP⟩ rfl rfl hl.1 rfl (lv_room (Nat.le_of_ble_eq_true rfl)) dX6_bears_3 ⟨Nat.le_refl _, Nat.le_refl _⟩).run) ?_
  refine lv_iconst (v := 5) hx hb dX6_bears_6 (by decide) ?_
  refine lv_aload_n hx hb dX6_bears_7 rfl (lv_at hl 0 rfl) ?_
  refine co_get (v := .ref (t.2.1 0)) S hK.1 (ci := 9) (T := TX9) (N := 4) rfl in_X9 (hP.ob 3 n (by decide) hn) 1 (by decide) (hts _ q329) rfl rfl dX6_bears_8 ?_
  refine co_getN (v := .ref (t.2.1 100)) S hK.1 (ci := 0) (T := TX0) (N := 12) rfl in_X0 (hP 0 0 (by decide) (by decide)) 3 (by decide) (hK.f (w := ("ThunderCasks$Cask", 23, "ThunderCasks", "d", "LThunderCasks$World;", "ThunderCasks")) 21 rfl _) rfl rfl dX6_bears_11 ?_
  refine ck6_frost S hK hP dX6_bears_14 ?_
  refine lv_aload_n hx hb dX6_bears_17 rfl (lv_at hl 0 rfl) ?_
  refine lv_iconst (v := 1) hx hb dX6_bears_18 (by decide) ?_
  refine kk_Ri ((va_runU (As := [.int (nI 1)]) (rest := [.ref (t.2.1 101), .int (5), .int (r (16 + 7 * n + 4)), .int (0)]) (C := RX9) (owner := "ThunderCasks$Cask") S (k3_X6_told l t r x n 1 hn (by decide)) (va_cwU 1 hts (lw_U q597 q1714 q1720 q545 q110 q546) rfl rfl rfl rfl (by decide +kernel) ⟨Nat.le_of_ble_eq_true rfl, Nat.le_of_ble_eq_true rfl⟩) ⟨c_blind, c_recv3 hK hP hn, c_pre hK hP⟩ rfl rfl hl.1 rfl (lv_room (Nat.le_of_ble_eq_true rfl)) dX6_bears_19 ⟨Nat.le_refl _, Nat.le_refl _⟩).run) ?_
  refine ck_ldf S hK hP ((pC r n)) hc1.2 hc1.1 dX6_bears_22 ?_
  refine lv_imul hx hb dX6_bears_23 ?_
  refine lv_isub hx hb dX6_bears_24 ?_
  refine c6_max S (rm_ok (Nat.le_of_ble_eq_true rfl)) hl.1 (Nat.le_of_ble_eq_true rfl) dX6_bears_25 ?_
  exact kk_iretR S hr hlk rfl rfl (rfl) dX6_bears_28
set_option maxHeartbeats 4000000 in
set_option maxRecDepth 100000 in
theorem k3_X8_bears (l : Launch) (t : CT) (r : Rw) (x : Nat → Rw) (n : Nat) (b : Nat) (hn : n < 8) (hV : pV b r) : Met l yX8_bears (ws_ yX8_bears cX8_bears 1 (some .int)) (rmF 2) (va_Pc [.ref (t.2.1 (600 + (8 * 3 + n)))] (fun U => cK t U ∧ cX t r x U.heap)) (kR (some (.int (p_plain r n + 10)))) 0 0 (fun _ => False) := by
  refine kk_start (by decide) (Nat.le_of_ble_eq_true rfl) ?_
  intro p e s m below meth c S hr hlk hin hB ls hl
  obtain ⟨hK, hP⟩ := hB
  have hx := S.1
  have hb := S.2.1
  have hown : s.vm.findClass RX8 = some m.cls := S.2.2.2.1
  have hts := S.2.2.2.2
  have hl : lv_has ls 1 [(0, .ref (t.2.1 (600 + (8 * 3 + n))))] := hl
  refine lv_aload_n hx hb dX8_bears_0 rfl (lv_at hl 0 rfl) ?_
  refine kk_Ri ((va_runSU (As := []) (rest := []) (C := RX9) (hK.1.1 9 _ rfl).2 S (k3_X6_bears l t r x n b hn hV) (va_cwSU 0 hts (lw_SU q633 q623 q348 q621 q110 q638) rfl rfl rfl (by decide +kernel) ⟨Nat.le_of_ble_eq_true rfl, Nat.le_of_ble_eq_true rfl⟩) ⟨c_blind, c_recv3 hK hP hn, c_pre hK hP⟩ rfl rfl hl.1 rfl (lv_room (Nat.le_of_ble_eq_true rfl)) dX8_bears_1 ⟨Nat.le_refl _, Nat.le_refl _⟩).run) ?_
  refine lv_bipush (v := 10) hx hb dX8_bears_4 (by decide) ?_
  refine lv_iadd hx hb dX8_bears_6 ?_
  exact kk_iretR S hr hlk rfl rfl (rfl) dX8_bears_7
set_option maxHeartbeats 4000000 in
set_option maxRecDepth 100000 in
theorem k4_X6_told (l : Launch) (t : CT) (r : Rw) (x : Nat → Rw) (n : Nat) (w : Nat) (hn : n < 8) (hw : w < 7) : Met l yX6_told (ws_ yX6_told cX6_told 2 (some .int)) (rmF 0) (va_Pc [.ref (t.2.1 (600 + (8 * 4 + n))), .int (nI w)] (fun U => cK t U ∧ cX t r x U.heap)) (kR (some (.int (r (16 + 7 * n + w))))) 0 0 (fun _ => False) := by
  refine kk_start (by decide) (Nat.le_of_ble_eq_true rfl) ?_
  intro p e s m below meth c S hr hlk hin hB ls hl
  obtain ⟨hK, hP⟩ := hB
  have hx := S.1
  have hb := S.2.1
  have hown : s.vm.findClass RX6 = some m.cls := S.2.2.2.1
  have hts := S.2.2.2.2
  have hl : lv_has ls 2 [(0, .ref (t.2.1 (600 + (8 * 4 + n)))), (1, .int ((nI w)))] := hl
  refine lv_aload_n hx hb dX6_told_0 rfl (lv_at hl 0 rfl) ?_
  refine co_get (v := .ref (t.2.1 0)) S hK.1 (ci := 10) (T := TX10) (N := 5) rfl in_X10 (hP.ob 4 n (by decide) hn) 1 (by decide) (hts _ q329) rfl rfl dX6_told_1 ?_
  refine co_getN (v := .ref (t.2.1 100)) S hK.1 (ci := 0) (T := TX0) (N := 12) rfl in_X0 (hP 0 0 (by decide) (by decide)) 3 (by decide) (hK.f (w := ("ThunderCasks$Cask", 23, "ThunderCasks", "d", "LThunderCasks$World;", "ThunderCasks")) 21 rfl _) rfl rfl dX6_told_4 ?_
  refine ck6_cask S hK hP dX6_told_7 ?_
  refine lv_iload_n hx hb dX6_told_10 rfl (lv_at hl 1 rfl) ?_
  refine ck_aald S hK hP (w) (by omega) rfl dX6_told_11 ?_
  refine lv_aload_n hx hb dX6_told_12 rfl (lv_at hl 0 rfl) ?_
  refine co_get (v := .int (nI n)) S hK.1 (ci := 10) (T := TX10) (N := 5) rfl in_X10 (hP.ob 4 n (by decide) hn) 0 (by decide) (hts _ q327) rfl rfl dX6_told_13 ?_
  refine ck_ldc S hK hP (w) (by omega) (n) (by omega) rfl dX6_told_16 ?_
  exact kk_iretR S hr hlk rfl rfl (rfl) dX6_told_17
set_option maxHeartbeats 4000000 in
set_option maxRecDepth 100000 in
theorem k4_X6_kind (l : Launch) (t : CT) (r : Rw) (x : Nat → Rw) (n : Nat) (hn : n < 8) : Met l yX6_kind (ws_ yX6_kind cX6_kind 1 (some .int)) (rmF 0) (va_Pc [.ref (t.2.1 (600 + (8 * 4 + n)))] (fun U => cK t U ∧ cX t r x U.heap)) (kR (some (.int (0)))) 0 0 (fun _ => False) := by
  refine kk_start (by decide) (Nat.le_of_ble_eq_true rfl) ?_
  intro p e s m below meth c S hr hlk hin hB ls hl
  obtain ⟨hK, hP⟩ := hB
  have hx := S.1
  have hb := S.2.1
  have hown : s.vm.findClass RX6 = some m.cls := S.2.2.2.1
  have hts := S.2.2.2.2
  have hl : lv_has ls 1 [(0, .ref (t.2.1 (600 + (8 * 4 + n))))] := hl
  refine lv_iconst (v := 0) hx hb dX6_kind_0 (by decide) ?_
  exact kk_iretR S hr hlk rfl rfl (rfl) dX6_kind_1
set_option maxHeartbeats 4000000 in
set_option maxRecDepth 100000 in
theorem k4_X8_kind (l : Launch) (t : CT) (r : Rw) (x : Nat → Rw) (n : Nat) (hn : n < 8) : Met l yX8_kind (ws_ yX8_kind cX8_kind 1 (some .int)) (rmF 1) (va_Pc [.ref (t.2.1 (600 + (8 * 4 + n)))] (fun U => cK t U ∧ cX t r x U.heap)) (kR (some (.int (2)))) 0 0 (fun _ => False) := by
  refine kk_start (by decide) (Nat.le_of_ble_eq_true rfl) ?_
  intro p e s m below meth c S hr hlk hin hB ls hl
  obtain ⟨hK, hP⟩ := hB
  have hx := S.1
  have hb := S.2.1
  have hown : s.vm.findClass RX8 = some m.cls := S.2.2.2.1
  have hts := S.2.2.2.2
  have hl : lv_has ls 1 [(0, .ref (t.2.1 (600 + (8 * 4 + n))))] := hl
  refine lv_iconst (v := 2) hx hb dX8_kind_0 (by decide) ?_
  refine lv_aload_n hx hb dX8_kind_1 rfl (lv_at hl 0 rfl) ?_
  refine kk_Ri ((va_runSU (As := []) (rest := [.int (2)]) (C := RX10) (hK.1.1 10 _ rfl).2 S (k4_X6_kind l t r x n hn) (va_cwSU 0 hts (lw_SU q520 q506 q348 q504 q110 q531) rfl rfl rfl (by decide +kernel) ⟨Nat.le_of_ble_eq_true rfl, Nat.le_of_ble_eq_true rfl⟩) ⟨c_blind, c_recv4 hK hP hn, c_pre hK hP⟩ rfl rfl hl.1 rfl (lv_room (Nat.le_of_ble_eq_true rfl)) dX8_kind_2 ⟨Nat.le_refl _, Nat.le_refl _⟩).run) ?_
  refine lv_iadd hx hb dX8_kind_5 ?_
  exact kk_iretR S hr hlk rfl rfl (by decide) dX8_kind_6
set_option maxHeartbeats 4000000 in
set_option maxRecDepth 100000 in
theorem k4_X9_kind (l : Launch) (t : CT) (r : Rw) (x : Nat → Rw) (n : Nat) (hn : n < 8) : Met l yX9_kind (ws_ yX9_kind cX9_kind 1 (some .int)) (rmF 2) (va_Pc [.ref (t.2.1 (600 + (8 * 4 + n)))] (fun U => cK t U ∧ cX t r x U.heap)) (kR (some (.int (3)))) 0 0 (fun _ => False) := by
  refine kk_start (by decide) (Nat.le_of_ble_eq_true rfl) ?_
  intro p e s m below meth c S hr hlk hin hB ls hl
  obtain ⟨hK, hP⟩ := hB
  have hx := S.1
  have hb := S.2.1
  have hown : s.vm.findClass RX9 = some m.cls := S.2.2.2.1
  have hts := S.2.2.2.2
  have hl : lv_has ls 1 [(0, .ref (t.2.1 (600 + (8 * 4 + n))))] := hl
  refine lv_iconst (v := 1) hx hb dX9_kind_0 (by decide) ?_
  refine lv_aload_n hx hb dX9_kind_1 rfl (lv_at hl 0 rfl) ?_
  refine kk_Ri ((va_runSU (As := []) (rest := [.int (1)]) (C := RX10) (hK.1.1 10 _ rfl).2 S (k4_X8_kind l t r x n hn) (va_cwSU 0 hts (lw_SU q517 q1709 q361 q518 q112 q519) rfl rfl rfl (by decide +kernel) ⟨Nat.le_of_ble_eq_true rfl, Nat.le_of_ble_eq_true rfl⟩) ⟨c_blind, c_recv4 hK hP hn, c_pre hK hP⟩ rfl rfl hl.1 rfl (lv_room (Nat.le_of_ble_eq_true rfl)) dX9_kind_2 ⟨Nat.le_refl _, Nat.le_refl _⟩).run) ?_
  refine lv_iadd hx hb dX9_kind_5 ?_
  exact kk_iretR S hr hlk rfl rfl (by decide) dX9_kind_6
set_option maxHeartbeats 4000000 in
set_option maxRecDepth 100000 in
theorem k4_X10_kind (l : Launch) (t : CT) (r : Rw) (x : Nat → Rw) (n : Nat) (hn : n < 8) : Met l yX10_kind (ws_ yX10_kind cX10_kind 1 (some .int)) (rmF 3) (va_Pc [.ref (t.2.1 (600 + (8 * 4 + n)))] (fun U => cK t U ∧ cX t r x U.heap)) (kR (some (.int (4)))) 0 0 (fun _ => False) := by
  refine kk_start (by decide) (Nat.le_of_ble_eq_true rfl) ?_
  intro p e s m below meth c S hr hlk hin hB ls hl
  obtain ⟨hK, hP⟩ := hB
  have hx := S.1
  have hb := S.2.1
  have hown : s.vm.findClass RX10 = some m.cls := S.2.2.2.1
  have hts := S.2.2.2.2
  have hl : lv_has ls 1 [(0, .ref (t.2.1 (600 + (8 * 4 + n))))] := hl
  refine lv_iconst (v := 1) hx hb dX10_kind_0 (by decide) ?_
  refine lv_aload_n hx hb dX10_kind_1 rfl (lv_at hl 0 rfl) ?_
  refine kk_Ri ((va_runSU (As := []) (rest := [.int (1)]) (C := RX10) (hK.1.1 10 _ rfl).2 S (k4_X9_kind l t r x n hn) (va_cwSU 0 hts (lw_SU q514 q1708 q375 q515 q113 q516) rfl rfl rfl (by decide +kernel) ⟨Nat.le_of_ble_eq_true rfl, Nat.le_of_ble_eq_true rfl⟩) ⟨c_blind, c_recv4 hK hP hn, c_pre hK hP⟩ rfl rfl hl.1 rfl (lv_room (Nat.le_of_ble_eq_true rfl)) dX10_kind_2 ⟨Nat.le_refl _, Nat.le_refl _⟩).run) ?_
  refine lv_iadd hx hb dX10_kind_5 ?_
  exact kk_iretR S hr hlk rfl rfl (by decide) dX10_kind_6
set_option maxHeartbeats 4000000 in
set_option maxRecDepth 100000 in
theorem k4_X6_isUnder (l : Launch) (t : CT) (r : Rw) (x : Nat → Rw) (n : Nat) (v : Int32) (hn : n < 8) : Met l yX6_isUnder (ws_ yX6_isUnder cX6_isUnder 2 (some .boolean)) (rmF 4) (va_Pc [.ref (t.2.1 (600 + (8 * 4 + n))), .int v] (fun U => cK t U ∧ cX t r x U.heap)) (kR (some (.int (b2i ((v = 0 ∨ v = 4)))))) 0 0 (fun _ => False) := by
  refine kk_start (by decide) (Nat.le_of_ble_eq_true rfl) ?_
  intro p e s m below meth c S hr hlk hin hB ls hl
  obtain ⟨hK, hP⟩ := hB
  have hx := S.1
  have hb := S.2.1
  have hown : s.vm.findClass RX6 = some m.cls := S.2.2.2.1
  have hts := S.2.2.2.2
  have hl : lv_has ls 2 [(0, .ref (t.2.1 (600 + (8 * 4 + n)))), (1, .int (v))] := hl
  refine lv_iload_n hx hb dX6_isUnder_0 rfl (lv_at hl 1 rfl) ?_
  refine lv_if_eq (tgt := 12) hx hb dX6_isUnder_1 (by decide) (fun c_1 => ?_) (fun c_1 => ?_)
  · skip
    refine lv_iconst (v := 1) hx hb dX6_isUnder_12 (by decide) ?_
    refine lv_goto (tgt := 17) hx hb dX6_isUnder_13 (by decide) ?_
    exact kk_ztR S hr hlk rfl rfl (by grind) dX6_isUnder_17
  · skip
    refine lv_iload_n hx hb dX6_isUnder_4 rfl (lv_at hl 1 rfl) ?_
    refine lv_aload_n hx hb dX6_isUnder_5 rfl (lv_at hl 0 rfl) ?_
    refine kk_Ri ((va_runU (As := []) (rest := [.int (v)]) (C := RX10) (owner := "ThunderCasks$Cask") S (k4_X10_kind l t r x n hn) (va_cwO 0 hts (lw_O q1166 q506 q504 q511 q512 q114 q513) rfl rfl rfl q531 (by decide +kernel) ⟨Nat.le_of_ble_eq_true rfl, Nat.le_of_ble_eq_true rfl⟩) ⟨c_blind, c_recv4 hK hP hn, c_pre hK hP⟩ rfl rfl hl.1 rfl (lv_room (Nat.le_of_ble_eq_true rfl)) dX6_isUnder_6 ⟨Nat.le_refl _, Nat.le_refl _⟩).run) ?_
    refine lv_icmp_ne (tgt := 16) hx hb dX6_isUnder_9 (by decide) (fun c_9 => ?_) (fun c_9 => ?_)
    · skip
      refine lv_iconst (v := 0) hx hb dX6_isUnder_16 (by decide) ?_
      exact kk_zfR S hr hlk rfl rfl (by grind) dX6_isUnder_17
    · skip
      refine lv_iconst (v := 1) hx hb dX6_isUnder_12 (by decide) ?_
      refine lv_goto (tgt := 17) hx hb dX6_isUnder_13 (by decide) ?_
      exact kk_ztR S hr hlk rfl rfl (by grind) dX6_isUnder_17
set_option maxHeartbeats 4000000 in
set_option maxRecDepth 100000 in
theorem k4_X8_isUnder (l : Launch) (t : CT) (r : Rw) (x : Nat → Rw) (n : Nat) (v : Int32) (hn : n < 8) : Met l yX8_isUnder (ws_ yX8_isUnder cX8_isUnder 2 (some .boolean)) (rmF 5) (va_Pc [.ref (t.2.1 (600 + (8 * 4 + n))), .int v] (fun U => cK t U ∧ cX t r x U.heap)) (kR (some (.int (b2i ((v = 2 ∨ (v = 0 ∨ v = 4))))))) 0 0 (fun _ => False) := by
  refine kk_start (by decide) (Nat.le_of_ble_eq_true rfl) ?_
  intro p e s m below meth c S hr hlk hin hB ls hl
  obtain ⟨hK, hP⟩ := hB
  have hx := S.1
  have hb := S.2.1
  have hown : s.vm.findClass RX8 = some m.cls := S.2.2.2.1
  have hts := S.2.2.2.2
  have hl : lv_has ls 2 [(0, .ref (t.2.1 (600 + (8 * 4 + n)))), (1, .int (v))] := hl
  refine lv_iload_n hx hb dX8_isUnder_0 rfl (lv_at hl 1 rfl) ?_
  refine lv_iconst (v := 2) hx hb dX8_isUnder_1 (by decide) ?_
  refine lv_icmp_eq (tgt := 13) hx hb dX8_isUnder_2 (by decide) (fun c_2 => ?_) (fun c_2 => ?_)
  · skip
    refine lv_iconst (v := 1) hx hb dX8_isUnder_13 (by decide) ?_
    refine lv_goto (tgt := 18) hx hb dX8_isUnder_14 (by decide) ?_
    exact kk_ztR S hr hlk rfl rfl (by grind) dX8_isUnder_18
  · skip
    refine lv_aload_n hx hb dX8_isUnder_5 rfl (lv_at hl 0 rfl) ?_
    refine lv_iload_n hx hb dX8_isUnder_6 rfl (lv_at hl 1 rfl) ?_
    refine kk_Ri ((va_runSU (As := [.int v]) (rest := []) (C := RX10) (hK.1.1 10 _ rfl).2 S (k4_X6_isUnder l t r x n v hn) (va_cwSU 1 hts (lw_SU q1160 q1149 q348 q1147 q110 q1165) rfl rfl rfl (by decide +kernel) ⟨Nat.le_of_ble_eq_true rfl, Nat.le_of_ble_eq_true rfl⟩) ⟨c_blind, c_recv4 hK hP hn, c_pre hK hP⟩ rfl rfl hl.1 rfl (lv_room (Nat.le_of_ble_eq_true rfl)) dX8_isUnder_7 ⟨Nat.le_refl _, Nat.le_refl _⟩).run) ?_
    refine kb_ifeq (tgt := 17) S dX8_isUnder_10 (by decide) (fun c_10 => ?_) (fun c_10 => ?_)
    · skip
      refine lv_iconst (v := 0) hx hb dX8_isUnder_17 (by decide) ?_
      exact kk_zfR S hr hlk rfl rfl (by grind) dX8_isUnder_18
    · skip
      refine lv_iconst (v := 1) hx hb dX8_isUnder_13 (by decide) ?_
      refine lv_goto (tgt := 18) hx hb dX8_isUnder_14 (by decide) ?_
      exact kk_ztR S hr hlk rfl rfl (by grind) dX8_isUnder_18
set_option maxHeartbeats 4000000 in
set_option maxRecDepth 100000 in
theorem k4_X9_isUnder (l : Launch) (t : CT) (r : Rw) (x : Nat → Rw) (n : Nat) (v : Int32) (hn : n < 8) : Met l yX9_isUnder (ws_ yX9_isUnder cX9_isUnder 2 (some .boolean)) (rmF 6) (va_Pc [.ref (t.2.1 (600 + (8 * 4 + n))), .int v] (fun U => cK t U ∧ cX t r x U.heap)) (kR (some (.int (b2i ((v = 3 ∨ (v = 2 ∨ (v = 0 ∨ v = 4)))))))) 0 0 (fun _ => False) := by
  refine kk_start (by decide) (Nat.le_of_ble_eq_true rfl) ?_
  intro p e s m below meth c S hr hlk hin hB ls hl
  obtain ⟨hK, hP⟩ := hB
  have hx := S.1
  have hb := S.2.1
  have hown : s.vm.findClass RX9 = some m.cls := S.2.2.2.1
  have hts := S.2.2.2.2
  have hl : lv_has ls 2 [(0, .ref (t.2.1 (600 + (8 * 4 + n)))), (1, .int (v))] := hl
  refine lv_iload_n hx hb dX9_isUnder_0 rfl (lv_at hl 1 rfl) ?_
  refine lv_iconst (v := 3) hx hb dX9_isUnder_1 (by decide) ?_
  refine lv_icmp_eq (tgt := 13) hx hb dX9_isUnder_2 (by decide) (fun c_2 => ?_) (fun c_2 => ?_)
  · skip
    refine lv_iconst (v := 1) hx hb dX9_isUnder_13 (by decide) ?_
    refine lv_goto (tgt := 18) hx hb dX9_isUnder_14 (by decide) ?_
    exact kk_ztR S hr hlk rfl rfl (by grind) dX9_isUnder_18
  · skip
    refine lv_aload_n hx hb dX9_isUnder_5 rfl (lv_at hl 0 rfl) ?_
    refine lv_iload_n hx hb dX9_isUnder_6 rfl (lv_at hl 1 rfl) ?_
    refine kk_Ri ((va_runSU (As := [.int v]) (rest := []) (C := RX10) (hK.1.1 10 _ rfl).2 S (k4_X8_isUnder l t r x n v hn) (va_cwSU 1 hts (lw_SU q1157 q1723 q361 q1158 q112 q1159) rfl rfl rfl (by decide +kernel) ⟨Nat.le_of_ble_eq_true rfl, Nat.le_of_ble_eq_true rfl⟩) ⟨c_blind, c_recv4 hK hP hn, c_pre hK hP⟩ rfl rfl hl.1 rfl (lv_room (Nat.le_of_ble_eq_true rfl)) dX9_isUnder_7 ⟨Nat.le_refl _, Nat.le_refl _⟩).run) ?_
    refine kb_ifeq (tgt := 17) S dX9_isUnder_10 (by decide) (fun c_10 => ?_) (fun c_10 => ?_)
    · skip
      refine lv_iconst (v := 0) hx hb dX9_isUnder_17 (by decide) ?_
      exact kk_zfR S hr hlk rfl rfl (by grind) dX9_isUnder_18
    · skip
      refine lv_iconst (v := 1) hx hb dX9_isUnder_13 (by decide) ?_
      refine lv_goto (tgt := 18) hx hb dX9_isUnder_14 (by decide) ?_
      exact kk_ztR S hr hlk rfl rfl (by grind) dX9_isUnder_18
set_option maxHeartbeats 4000000 in
set_option maxRecDepth 100000 in
theorem k4_X6_loud (l : Launch) (t : CT) (r : Rw) (x : Nat → Rw) (n : Nat) (hn : n < 8) : Met l yX6_loud (ws_ yX6_loud cX6_loud 1 (some .int)) (rmF 1) (va_Pc [.ref (t.2.1 (600 + (8 * 4 + n)))] (fun U => cK t U ∧ cX t r x U.heap)) (kR (some (.int (r (16 + 7 * n + 2))))) 0 0 (fun _ => False) := by
  refine kk_start (by decide) (Nat.le_of_ble_eq_true rfl) ?_
  intro p e s m below meth c S hr hlk hin hB ls hl
  obtain ⟨hK, hP⟩ := hB
  have hx := S.1
  have hb := S.2.1
  have hown : s.vm.findClass RX6 = some m.cls := S.2.2.2.1
  have hts := S.2.2.2.2
  have hl : lv_has ls 1 [(0, .ref (t.2.1 (600 + (8 * 4 + n))))] := hl
  refine lv_aload_n hx hb dX6_loud_0 rfl (lv_at hl 0 rfl) ?_
  refine lv_iconst (v := 2) hx hb dX6_loud_1 (by decide) ?_
  refine kk_Ri ((va_runU (As := [.int (nI 2)]) (rest := []) (C := RX10) (owner := "ThunderCasks$Cask") S (k4_X6_told l t r x n 2 hn (by decide)) (va_cwU 1 hts (lw_U q597 q1714 q1717 q545 q110 q546) rfl rfl rfl rfl (by decide +kernel) ⟨Nat.le_of_ble_eq_true rfl, Nat.le_of_ble_eq_true rfl⟩) ⟨c_blind, c_recv4 hK hP hn, c_pre hK hP⟩ rfl rfl hl.1 rfl (lv_room (Nat.le_of_ble_eq_true rfl)) dX6_loud_2 ⟨Nat.le_refl _, Nat.le_refl _⟩).run) ?_
  exact kk_iretR S hr hlk rfl rfl (rfl) dX6_loud_5
set_option maxHeartbeats 4000000 in
set_option maxRecDepth 100000 in
theorem k4_X8_loud (l : Launch) (t : CT) (r : Rw) (x : Nat → Rw) (n : Nat) (hn : n < 8) : Met l yX8_loud (ws_ yX8_loud cX8_loud 2 (some .int)) (rmF 2) (va_Pc [.ref (t.2.1 (600 + (8 * 4 + n)))] (fun U => cK t U ∧ cX t r x U.heap)) (kR (some (.int (p_roll r n)))) 0 0 (fun _ => False) := by
  refine kk_start (by decide) (Nat.le_of_ble_eq_true rfl) ?_
  intro p e s m below meth c S hr hlk hin hB ls hl
  obtain ⟨hK, hP⟩ := hB
  have hx := S.1
  have hb := S.2.1
  have hown : s.vm.findClass RX8 = some m.cls := S.2.2.2.1
  have hts := S.2.2.2.2
  have hl : lv_has ls 2 [(0, .ref (t.2.1 (600 + (8 * 4 + n))))] := hl
  refine lv_aload_n hx hb dX8_loud_0 rfl (lv_at hl 0 rfl) ?_
  refine kk_Ri ((va_runSU (As := []) (rest := []) (C := RX10) (hK.1.1 10 _ rfl).2 S (k4_X6_loud l t r x n hn) (va_cwSU 0 hts (lw_SU q559 q535 q348 q533 q110 q596) rfl rfl rfl (by decide +kernel) ⟨Nat.le_of_ble_eq_true rfl, Nat.le_of_ble_eq_true rfl⟩) ⟨c_blind, c_recv4 hK hP hn, c_pre hK hP⟩ rfl rfl hl.1 rfl (lv_room (Nat.le_of_ble_eq_true rfl)) dX8_loud_1 ⟨Nat.le_refl _, Nat.le_refl _⟩).run) ?_
  refine lv_istore_n (lv' := [(1, .int (r (16 + 7 * n + 2))), (0, .ref (t.2.1 (600 + (8 * 4 + n))))]) hx hb dX8_loud_4 rfl hl (by decide) rfl (fun ls hl => ?_)
  refine lv_iload_n hx hb dX8_loud_5 rfl (lv_at hl 0 rfl) ?_
  refine lv_iload_n hx hb dX8_loud_6 rfl (lv_at hl 0 rfl) ?_
  refine lv_iconst (v := 4) hx hb dX8_loud_7 (by decide) ?_
  refine lv_idiv hx hb dX8_loud_8 (by decide) ?_
  refine lv_isub hx hb dX8_loud_9 ?_
  refine lv_aload_n hx hb dX8_loud_10 rfl (lv_at hl 1 rfl) ?_
  refine lv_iconst (v := 5) hx hb dX8_loud_11 (by decide) ?_
  refine kk_Ri ((va_runU (As := [.int (nI 5)]) (rest := [.int ((r (16 + 7 * n + 2) - (r (16 + 7 * n + 2) / 4)))]) (C := RX10) (owner := "ThunderCasks$Cask") S (k4_X6_told l t r x n 5 hn (by decide)) (va_cwU 1 hts (lw_U q560 q561 q562 q545 q110 q546) rfl rfl rfl rfl (by decide +kernel) ⟨Nat.le_of_ble_eq_true rfl, Nat.le_of_ble_eq_true rfl⟩) ⟨c_blind, c_recv4 hK hP hn, c_pre hK hP⟩ rfl rfl hl.1 rfl (lv_room (Nat.le_of_ble_eq_true rfl)) dX8_loud_12 ⟨Nat.le_refl _, Nat.le_refl _⟩).run) ?_
  refine lv_iadd hx hb dX8_loud_15 ?_
  exact kk_iretR S hr hlk rfl rfl (rfl) dX8_loud_16
set_option maxHeartbeats 4000000 in
set_option maxRecDepth 100000 in
theorem k4_X9_loud (l : Launch) (t : CT) (r : Rw) (x : Nat → Rw) (n : Nat) (hn : n < 8) : Met l yX9_loud (ws_ yX9_loud cX9_loud 1 (some .int)) (rmF 3) (va_Pc [.ref (t.2.1 (600 + (8 * 4 + n)))] (fun U => cK t U ∧ cX t r x U.heap)) (kR (some (.int (p_roll r n / 2)))) 0 0 (fun _ => False) := by
  refine kk_start (by decide) (Nat.le_of_ble_eq_true rfl) ?_
  intro p e s m below meth c S hr hlk hin hB ls hl
  obtain ⟨hK, hP⟩ := hB
  have hx := S.1
  have hb := S.2.1
  have hown : s.vm.findClass RX9 = some m.cls := S.2.2.2.1
  have hts := S.2.2.2.2
  have hl : lv_has ls 1 [(0, .ref (t.2.1 (600 + (8 * 4 + n))))] := hl
  refine lv_aload_n hx hb dX9_loud_0 rfl (lv_at hl 0 rfl) ?_
  refine lv_aload_n hx hb dX9_loud_1 rfl (lv_at hl 0 rfl) ?_
  refine kk_Ri ((va_runSU (As := []) (rest := [.ref (t.2.1 (600 + (8 * 4 + n)))]) (C := RX10) (hK.1.1 10 _ rfl).2 S (k4_X8_loud l t r x n hn) (va_cwSU 0 hts (lw_SU q556 q1712 q361 q557 q112 q558) rfl rfl rfl (by decide +kernel) ⟨Nat.le_of_ble_eq_true rfl, Nat.le_of_ble_eq_true rfl⟩) ⟨c_blind, c_recv4 hK hP hn, c_pre hK hP⟩ rfl rfl hl.1 rfl (lv_room (Nat.le_of_ble_eq_true rfl)) dX9_loud_2 ⟨Nat.le_refl _, Nat.le_refl _⟩).run) ?_
  refine kk_Ri (ch_run (As := [.int ((p_roll r n))]) (C := RX10) (x0 := ⟨"ThunderCasks$Mellow", "half", "(I)I"⟩) (owner := "ThunderCasks$Thunders") (maxL := 2) S (kX14_half l (t.2.1 (600 + (8 * 4 + n))) ((p_roll r n))) (fun _ _ _ _ h => ⟨_, h.1⟩) rfl rfl (Nat.le_of_ble_eq_true rfl) (Nat.le_of_ble_eq_true rfl) q570 (hK.2.2.2.2.2.2.2.2.1).1.1 (hK.2.2.2.2.2.2.2.2.1).1.2 rfl ⟨by decide, by decide⟩ (hK.2.2.2.2.2.2.2.2.2.1 _ (List.mem_of_getElem? (i := 0) rfl)) (hts _ q568) (show (parseMethodDescriptor yX14_half.desc).map (fun d => d.parameters.length) = some 1 from by decide +kernel) ⟨kk_blindT, c_recv4 hK hP hn, fun U hU hW => ⟨rfl, trivial⟩⟩ rfl hl.1 rfl (lv_room (Nat.le_of_ble_eq_true rfl)) dX9_loud_5 ⟨Nat.le_refl _, Nat.le_refl _⟩) ?_
  exact kk_iretR S hr hlk rfl rfl (rfl) dX9_loud_8
set_option maxHeartbeats 4000000 in
set_option maxRecDepth 100000 in
theorem k4_X10_loud (l : Launch) (t : CT) (r : Rw) (x : Nat → Rw) (n : Nat) (b : Nat) (hn : n < 8) (hV : pV b r) : Met l yX10_loud (ws_ yX10_loud cX10_loud 1 (some .int)) (rmF 4) (va_Pc [.ref (t.2.1 (600 + (8 * 4 + n)))] (fun U => cK t U ∧ cX t r x U.heap)) (kR (some (.int (p_roll r n / 2 + 5 * (nI (p_many (p_there r (r (16 + 7 * n + 1)))) - 1))))) 0 0 (fun _ => False) := by
  refine kk_start (by decide) (Nat.le_of_ble_eq_true rfl) ?_
  intro p e s m below meth c S hr hlk hin hB ls hl
  obtain ⟨hK, hP⟩ := hB
  have hx := S.1
  have hb := S.2.1
  have hown : s.vm.findClass RX10 = some m.cls := S.2.2.2.1
  have hts := S.2.2.2.2
  have hl : lv_has ls 1 [(0, .ref (t.2.1 (600 + (8 * 4 + n))))] := hl
  refine lv_aload_n hx hb dX10_loud_0 rfl (lv_at hl 0 rfl) ?_
  refine kk_Ri ((va_runSU (As := []) (rest := []) (C := RX10) (hK.1.1 10 _ rfl).2 S (k4_X9_loud l t r x n hn) (va_cwSU 0 hts (lw_SU q553 q1711 q375 q554 q113 q555) rfl rfl rfl (by decide +kernel) ⟨Nat.le_of_ble_eq_true rfl, Nat.le_of_ble_eq_true rfl⟩) ⟨c_blind, c_recv4 hK hP hn, c_pre hK hP⟩ rfl rfl hl.1 rfl (lv_room (Nat.le_of_ble_eq_true rfl)) dX10_loud_1 ⟨Nat.le_refl _, Nat.le_refl _⟩).run) ?_
  refine lv_iconst (v := 5) hx hb dX10_loud_4 (by decide) ?_
  refine lv_aload_n hx hb dX10_loud_5 rfl (lv_at hl 0 rfl) ?_
  refine co_get (v := .ref (t.2.1 0)) S hK.1 (ci := 10) (T := TX10) (N := 5) rfl in_X10 (hP.ob 4 n (by decide) hn) 4 (by decide) (hts _ q368) rfl rfl dX10_loud_6 ?_
  refine co_getN (v := .ref (t.2.1 100)) S hK.1 (ci := 0) (T := TX0) (N := 12) rfl in_X0 (hP 0 0 (by decide) (by decide)) 3 (by decide) (hK.f (w := ("ThunderCasks$Echo", 22, "ThunderCasks", "d", "LThunderCasks$World;", "ThunderCasks")) 20 rfl _) rfl rfl dX10_loud_9 ?_
  refine lv_aload_n hx hb dX10_loud_12 rfl (lv_at hl 0 rfl) ?_
  refine lv_iconst (v := 1) hx hb dX10_loud_13 (by decide) ?_
  refine kk_Ri ((va_runU (As := [.int (nI 1)]) (rest := [.ref (t.2.1 100), .int (5), .int ((p_roll r n / 2))]) (C := RX10) (owner := "ThunderCasks$Cask") S (k4_X6_told l t r x n 1 hn (by decide)) (va_cwU 1 hts (lw_U q571 q572 q573 q545 q110 q546) rfl rfl rfl rfl (by decide +kernel) ⟨Nat.le_of_ble_eq_true rfl, Nat.le_of_ble_eq_true rfl⟩) ⟨c_blind, c_recv4 hK hP hn, c_pre hK hP⟩ rfl rfl hl.1 rfl (lv_room (Nat.le_of_ble_eq_true rfl)) dX10_loud_14 ⟨Nat.le_refl _, Nat.le_refl _⟩).run) ?_
  refine d10_whatIsIn S hK hP (rm_ok (Nat.le_of_ble_eq_true rfl)) hl.1 (b) hV (Nat.le_of_ble_eq_true rfl) dX10_loud_17 ?_
  refine cc_ones_X10 S hK (rm_ok (Nat.le_of_ble_eq_true rfl)) hl.1 ((p_there r (r (16 + 7 * n + 1)))) (p_there_lt hV _) rfl (Nat.le_of_ble_eq_true rfl) dX10_loud_20 ?_
  refine lv_iconst (v := 1) hx hb dX10_loud_23 (by decide) ?_
  refine lv_isub hx hb dX10_loud_24 ?_
  refine lv_imul hx hb dX10_loud_25 ?_
  refine lv_iadd hx hb dX10_loud_26 ?_
  exact kk_iretR S hr hlk rfl rfl (rfl) dX10_loud_27
set_option maxHeartbeats 4000000 in
set_option maxRecDepth 100000 in
theorem k4_X6_leaks (l : Launch) (t : CT) (r : Rw) (x : Nat → Rw) (n : Nat) (hn : n < 8) : Met l yX6_leaks (ws_ yX6_leaks cX6_leaks 1 (some .int)) (rmF 0) (va_Pc [.ref (t.2.1 (600 + (8 * 4 + n)))] (fun U => cK t U ∧ cX t r x U.heap)) (kR (some (.int (1)))) 0 0 (fun _ => False) := by
  refine kk_start (by decide) (Nat.le_of_ble_eq_true rfl) ?_
  intro p e s m below meth c S hr hlk hin hB ls hl
  obtain ⟨hK, hP⟩ := hB
  have hx := S.1
  have hb := S.2.1
  have hown : s.vm.findClass RX6 = some m.cls := S.2.2.2.1
  have hts := S.2.2.2.2
  have hl : lv_has ls 1 [(0, .ref (t.2.1 (600 + (8 * 4 + n))))] := hl
  refine lv_iconst (v := 1) hx hb dX6_leaks_0 (by decide) ?_
  exact kk_iretR S hr hlk rfl rfl (rfl) dX6_leaks_1
set_option maxHeartbeats 4000000 in
set_option maxRecDepth 100000 in
theorem k4_X9_leaks (l : Launch) (t : CT) (r : Rw) (x : Nat → Rw) (n : Nat) (hn : n < 8) : Met l yX9_leaks (ws_ yX9_leaks cX9_leaks 1 (some .int)) (rmF 0) (va_Pc [.ref (t.2.1 (600 + (8 * 4 + n)))] (fun U => cK t U ∧ cX t r x U.heap)) (kR (some (.int (0)))) 0 0 (fun _ => False) := by
  refine kk_start (by decide) (Nat.le_of_ble_eq_true rfl) ?_
  intro p e s m below meth c S hr hlk hin hB ls hl
  obtain ⟨hK, hP⟩ := hB
  have hx := S.1
  have hb := S.2.1
  have hown : s.vm.findClass RX9 = some m.cls := S.2.2.2.1
  have hts := S.2.2.2.2
  have hl : lv_has ls 1 [(0, .ref (t.2.1 (600 + (8 * 4 + n))))] := hl
  refine lv_iconst (v := 0) hx hb dX9_leaks_0 (by decide) ?_
  exact kk_iretR S hr hlk rfl rfl (rfl) dX9_leaks_1
set_option maxHeartbeats 4000000 in
set_option maxRecDepth 100000 in
theorem k4_X6_bears (l : Launch) (t : CT) (r : Rw) (x : Nat → Rw) (n : Nat) (b : Nat) (hn : n < 8) (hV : pV b r) : Met l yX6_bears (ws_ yX6_bears cX6_bears 1 (some .int)) (rmF 1) (va_Pc [.ref (t.2.1 (600 + (8 * 4 + n)))] (fun U => cK t U ∧ cX t r x U.heap)) (kR (some (.int (p_plain r n)))) 0 0 (fun _ => False) := by
  refine kk_start (by decide) (Nat.le_of_ble_eq_true rfl) ?_
  intro p e s m below meth c S hr hlk hin hB ls hl
  obtain ⟨hK, hP⟩ := hB
  have hx := S.1
  have hb := S.2.1
  have hown : s.vm.findClass RX6 = some m.cls := S.2.2.2.1
  have hts := S.2.2.2.2
  have hl : lv_has ls 1 [(0, .ref (t.2.1 (600 + (8 * 4 + n))))] := hl
  have hc1 := hV.c hn
  refine lv_iconst (v := 0) hx hb dX6_bears_0 (by decide) ?_
  refine lv_aload_n hx hb dX6_bears_1 rfl (lv_at hl 0 rfl) ?_
  refine lv_iconst (v := 4) hx hb dX6_bears_2 (by decide) ?_
  refine kk_Ri ((va_runU (As := [.int (nI 4)]) (rest := [.int (0)]) (C := RX10) (owner := "ThunderCasks$Cask") S (k4_X6_told l t r x n 4 hn (by decide)) (va_cwU 1 hts (lw_U q597 q1714 q1717 q545 q110 q546) rfl rfl rfl rfl (by decide +kernel) ⟨Nat.le_of_ble_eq_true rfl, Nat.le_of_ble_eq_true rfl⟩) ⟨c_blind, c_recv4 hK hP hn, c_pre hK hP⟩ rfl rfl hl.1 rfl (lv_room (Nat.le_of_ble_eq_true rfl)) dX6_bears_3 ⟨Nat.le_refl _, Nat.le_refl _⟩).run) ?_
  refine lv_iconst (v := 5) hx hb dX6_bears_6 (by decide) ?_
  refine lv_aload_n hx hb dX6_bears_7 rfl (lv_at hl 0 rfl) ?_
  refine co_get (v := .ref (t.2.1 0)) S hK.1 (ci := 10) (T := TX10) (N := 5) rfl in_X10 (hP.ob 4 n (by decide) hn) 1 (by decide) (hts _ q329) rfl rfl dX6_bears_8 ?_
  refine co_getN (v := .ref (t.2.1 100)) S hK.1 (ci := 0) (T := TX0) (N := 12) rfl in_X0 (hP 0 0 (by decide) (by decide)) 3 (by decide) (hK.f (w := ("ThunderCasks$Cask", 23, "ThunderCasks", "d", "LThunderCasks$World;", "ThunderCasks")) 21 rfl _) rfl rfl dX6_bears_11 ?_
  refine ck6_frost S hK hP dX6_bears_14 ?_
  refine lv_aload_n hx hb dX6_bears_17 rfl (lv_at hl 0 rfl) ?_
  refine lv_iconst (v := 1) hx hb dX6_bears_18 (by decide) ?_
  refine kk_Ri ((va_runU (As := [.int (nI 1)]) (rest := [.ref (t.2.1 101), .int (5), .int (r (16 + 7 * n + 4)), .int (0)]) (C := RX10) (owner := "ThunderCasks$Cask") S (k4_X6_told l t r x n 1 hn (by decide)) (va_cwU 1 hts (lw_U q597 q1714 q1717 q545 q110 q546) rfl rfl rfl rfl (by decide +kernel) ⟨Nat.le_of_ble_eq_true rfl, Nat.le_of_ble_eq_true rfl⟩) ⟨c_blind, c_recv4 hK hP hn, c_pre hK hP⟩ rfl rfl hl.1 rfl (lv_room (Nat.le_of_ble_eq_true rfl)) dX6_bears_19 ⟨Nat.le_refl _, Nat.le_refl _⟩).run) ?_
  refine ck_ldf S hK hP ((pC r n)) hc1.2 hc1.1 dX6_bears_22 ?_
  refine lv_imul hx hb dX6_bears_23 ?_
  refine lv_isub hx hb dX6_bears_24 ?_
  refine c6_max S (rm_ok (Nat.le_of_ble_eq_true rfl)) hl.1 (Nat.le_of_ble_eq_true rfl) dX6_bears_25 ?_
  exact kk_iretR S hr hlk rfl rfl (rfl) dX6_bears_28
set_option maxHeartbeats 4000000 in
set_option maxRecDepth 100000 in
theorem k4_X8_bears (l : Launch) (t : CT) (r : Rw) (x : Nat → Rw) (n : Nat) (b : Nat) (hn : n < 8) (hV : pV b r) : Met l yX8_bears (ws_ yX8_bears cX8_bears 1 (some .int)) (rmF 2) (va_Pc [.ref (t.2.1 (600 + (8 * 4 + n)))] (fun U => cK t U ∧ cX t r x U.heap)) (kR (some (.int (p_plain r n + 10)))) 0 0 (fun _ => False) := by
  refine kk_start (by decide) (Nat.le_of_ble_eq_true rfl) ?_
  intro p e s m below meth c S hr hlk hin hB ls hl
  obtain ⟨hK, hP⟩ := hB
  have hx := S.1
  have hb := S.2.1
  have hown : s.vm.findClass RX8 = some m.cls := S.2.2.2.1
  have hts := S.2.2.2.2
  have hl : lv_has ls 1 [(0, .ref (t.2.1 (600 + (8 * 4 + n))))] := hl
  refine lv_aload_n hx hb dX8_bears_0 rfl (lv_at hl 0 rfl) ?_
  refine kk_Ri ((va_runSU (As := []) (rest := []) (C := RX10) (hK.1.1 10 _ rfl).2 S (k4_X6_bears l t r x n b hn hV) (va_cwSU 0 hts (lw_SU q633 q623 q348 q621 q110 q638) rfl rfl rfl (by decide +kernel) ⟨Nat.le_of_ble_eq_true rfl, Nat.le_of_ble_eq_true rfl⟩) ⟨c_blind, c_recv4 hK hP hn, c_pre hK hP⟩ rfl rfl hl.1 rfl (lv_room (Nat.le_of_ble_eq_true rfl)) dX8_bears_1 ⟨Nat.le_refl _, Nat.le_refl _⟩).run) ?_
  refine lv_bipush (v := 10) hx hb dX8_bears_4 (by decide) ?_
  refine lv_iadd hx hb dX8_bears_6 ?_
  exact kk_iretR S hr hlk rfl rfl (rfl) dX8_bears_7
set_option maxHeartbeats 4000000 in
set_option maxRecDepth 100000 in
theorem k5_X6_told (l : Launch) (t : CT) (r : Rw) (x : Nat → Rw) (n : Nat) (w : Nat) (hn : n < 8) (hw : w < 7) : Met l yX6_told (ws_ yX6_told cX6_told 2 (some .int)) (rmF 0) (va_Pc [.ref (t.2.1 (600 + (8 * 5 + n))), .int (nI w)] (fun U => cK t U ∧ cX t r x U.heap)) (kR (some (.int (r (16 + 7 * n + w))))) 0 0 (fun _ => False) := by
  refine kk_start (by decide) (Nat.le_of_ble_eq_true rfl) ?_
  intro p e s m below meth c S hr hlk hin hB ls hl
  obtain ⟨hK, hP⟩ := hB
  have hx := S.1
  have hb := S.2.1
  have hown : s.vm.findClass RX6 = some m.cls := S.2.2.2.1
  have hts := S.2.2.2.2
  have hl : lv_has ls 2 [(0, .ref (t.2.1 (600 + (8 * 5 + n)))), (1, .int ((nI w)))] := hl
  refine lv_aload_n hx hb dX6_told_0 rfl (lv_at hl 0 rfl) ?_
  refine co_get (v := .ref (t.2.1 0)) S hK.1 (ci := 11) (T := TX11) (N := 3) rfl in_X11 (hP.ob 5 n (by decide) hn) 1 (by decide) (hts _ q329) rfl rfl dX6_told_1 ?_
  refine co_getN (v := .ref (t.2.1 100)) S hK.1 (ci := 0) (T := TX0) (N := 12) rfl in_X0 (hP 0 0 (by decide) (by decide)) 3 (by decide) (hK.f (w := ("ThunderCasks$Cask", 23, "ThunderCasks", "d", "LThunderCasks$World;", "ThunderCasks")) 21 rfl _) rfl rfl dX6_told_4 ?_
  refine ck6_cask S hK hP dX6_told_7 ?_
  refine lv_iload_n hx hb dX6_told_10 rfl (lv_at hl 1 rfl) ?_
  refine ck_aald S hK hP (w) (by omega) rfl dX6_told_11 ?_
  refine lv_aload_n hx hb dX6_told_12 rfl (lv_at hl 0 rfl) ?_
  refine co_get (v := .int (nI n)) S hK.1 (ci := 11) (T := TX11) (N := 3) rfl in_X11 (hP.ob 5 n (by decide) hn) 0 (by decide) (hts _ q327) rfl rfl dX6_told_13 ?_
  refine ck_ldc S hK hP (w) (by omega) (n) (by omega) rfl dX6_told_16 ?_
  exact kk_iretR S hr hlk rfl rfl (rfl) dX6_told_17
set_option maxHeartbeats 4000000 in
set_option maxRecDepth 100000 in
theorem k5_X6_kind (l : Launch) (t : CT) (r : Rw) (x : Nat → Rw) (n : Nat) (hn : n < 8) : Met l yX6_kind (ws_ yX6_kind cX6_kind 1 (some .int)) (rmF 0) (va_Pc [.ref (t.2.1 (600 + (8 * 5 + n)))] (fun U => cK t U ∧ cX t r x U.heap)) (kR (some (.int (0)))) 0 0 (fun _ => False) := by
  refine kk_start (by decide) (Nat.le_of_ble_eq_true rfl) ?_
  intro p e s m below meth c S hr hlk hin hB ls hl
  obtain ⟨hK, hP⟩ := hB
  have hx := S.1
  have hb := S.2.1
  have hown : s.vm.findClass RX6 = some m.cls := S.2.2.2.1
  have hts := S.2.2.2.2
  have hl : lv_has ls 1 [(0, .ref (t.2.1 (600 + (8 * 5 + n))))] := hl
  refine lv_iconst (v := 0) hx hb dX6_kind_0 (by decide) ?_
  exact kk_iretR S hr hlk rfl rfl (rfl) dX6_kind_1
set_option maxHeartbeats 4000000 in
set_option maxRecDepth 100000 in
theorem k5_X11_kind (l : Launch) (t : CT) (r : Rw) (x : Nat → Rw) (n : Nat) (hn : n < 8) : Met l yX11_kind (ws_ yX11_kind cX11_kind 1 (some .int)) (rmF 1) (va_Pc [.ref (t.2.1 (600 + (8 * 5 + n)))] (fun U => cK t U ∧ cX t r x U.heap)) (kR (some (.int (5)))) 0 0 (fun _ => False) := by
  refine kk_start (by decide) (Nat.le_of_ble_eq_true rfl) ?_
  intro p e s m below meth c S hr hlk hin hB ls hl
  obtain ⟨hK, hP⟩ := hB
  have hx := S.1
  have hb := S.2.1
  have hown : s.vm.findClass RX11 = some m.cls := S.2.2.2.1
  have hts := S.2.2.2.2
  have hl : lv_has ls 1 [(0, .ref (t.2.1 (600 + (8 * 5 + n))))] := hl
  refine lv_iconst (v := 5) hx hb dX11_kind_0 (by decide) ?_
  refine lv_aload_n hx hb dX11_kind_1 rfl (lv_at hl 0 rfl) ?_
  refine kk_Ri ((va_runSU (As := []) (rest := [.int (5)]) (C := RX11) (hK.1.1 11 _ rfl).2 S (k5_X6_kind l t r x n hn) (va_cwSU 0 hts (lw_SU q528 q506 q387 q504 q110 q531) rfl rfl rfl (by decide +kernel) ⟨Nat.le_of_ble_eq_true rfl, Nat.le_of_ble_eq_true rfl⟩) ⟨c_blind, c_recv5 hK hP hn, c_pre hK hP⟩ rfl rfl hl.1 rfl (lv_room (Nat.le_of_ble_eq_true rfl)) dX11_kind_2 ⟨Nat.le_refl _, Nat.le_refl _⟩).run) ?_
  refine lv_iadd hx hb dX11_kind_5 ?_
  exact kk_iretR S hr hlk rfl rfl (by decide) dX11_kind_6
set_option maxHeartbeats 4000000 in
set_option maxRecDepth 100000 in
theorem k5_X6_isUnder (l : Launch) (t : CT) (r : Rw) (x : Nat → Rw) (n : Nat) (v : Int32) (hn : n < 8) : Met l yX6_isUnder (ws_ yX6_isUnder cX6_isUnder 2 (some .boolean)) (rmF 2) (va_Pc [.ref (t.2.1 (600 + (8 * 5 + n))), .int v] (fun U => cK t U ∧ cX t r x U.heap)) (kR (some (.int (b2i ((v = 0 ∨ v = 5)))))) 0 0 (fun _ => False) := by
  refine kk_start (by decide) (Nat.le_of_ble_eq_true rfl) ?_
  intro p e s m below meth c S hr hlk hin hB ls hl
  obtain ⟨hK, hP⟩ := hB
  have hx := S.1
  have hb := S.2.1
  have hown : s.vm.findClass RX6 = some m.cls := S.2.2.2.1
  have hts := S.2.2.2.2
  have hl : lv_has ls 2 [(0, .ref (t.2.1 (600 + (8 * 5 + n)))), (1, .int (v))] := hl
  refine lv_iload_n hx hb dX6_isUnder_0 rfl (lv_at hl 1 rfl) ?_
  refine lv_if_eq (tgt := 12) hx hb dX6_isUnder_1 (by decide) (fun c_1 => ?_) (fun c_1 => ?_)
  · skip
    refine lv_iconst (v := 1) hx hb dX6_isUnder_12 (by decide) ?_
    refine lv_goto (tgt := 17) hx hb dX6_isUnder_13 (by decide) ?_
    exact kk_ztR S hr hlk rfl rfl (by grind) dX6_isUnder_17
  · skip
    refine lv_iload_n hx hb dX6_isUnder_4 rfl (lv_at hl 1 rfl) ?_
    refine lv_aload_n hx hb dX6_isUnder_5 rfl (lv_at hl 0 rfl) ?_
    refine kk_Ri ((va_runU (As := []) (rest := [.int (v)]) (C := RX11) (owner := "ThunderCasks$Cask") S (k5_X11_kind l t r x n hn) (va_cwO 0 hts (lw_O q1166 q506 q504 q525 q526 q115 q527) rfl rfl rfl q531 (by decide +kernel) ⟨Nat.le_of_ble_eq_true rfl, Nat.le_of_ble_eq_true rfl⟩) ⟨c_blind, c_recv5 hK hP hn, c_pre hK hP⟩ rfl rfl hl.1 rfl (lv_room (Nat.le_of_ble_eq_true rfl)) dX6_isUnder_6 ⟨Nat.le_refl _, Nat.le_refl _⟩).run) ?_
    refine lv_icmp_ne (tgt := 16) hx hb dX6_isUnder_9 (by decide) (fun c_9 => ?_) (fun c_9 => ?_)
    · skip
      refine lv_iconst (v := 0) hx hb dX6_isUnder_16 (by decide) ?_
      exact kk_zfR S hr hlk rfl rfl (by grind) dX6_isUnder_17
    · skip
      refine lv_iconst (v := 1) hx hb dX6_isUnder_12 (by decide) ?_
      refine lv_goto (tgt := 17) hx hb dX6_isUnder_13 (by decide) ?_
      exact kk_ztR S hr hlk rfl rfl (by grind) dX6_isUnder_17
set_option maxHeartbeats 4000000 in
set_option maxRecDepth 100000 in
theorem k5_X6_loud (l : Launch) (t : CT) (r : Rw) (x : Nat → Rw) (n : Nat) (hn : n < 8) : Met l yX6_loud (ws_ yX6_loud cX6_loud 1 (some .int)) (rmF 1) (va_Pc [.ref (t.2.1 (600 + (8 * 5 + n)))] (fun U => cK t U ∧ cX t r x U.heap)) (kR (some (.int (r (16 + 7 * n + 2))))) 0 0 (fun _ => False) := by
  refine kk_start (by decide) (Nat.le_of_ble_eq_true rfl) ?_
  intro p e s m below meth c S hr hlk hin hB ls hl
  obtain ⟨hK, hP⟩ := hB
  have hx := S.1
  have hb := S.2.1
  have hown : s.vm.findClass RX6 = some m.cls := S.2.2.2.1
  have hts := S.2.2.2.2
  have hl : lv_has ls 1 [(0, .ref (t.2.1 (600 + (8 * 5 + n))))] := hl
  refine lv_aload_n hx hb dX6_loud_0 rfl (lv_at hl 0 rfl) ?_
  refine lv_iconst (v := 2) hx hb dX6_loud_1 (by decide) ?_
  refine kk_Ri ((va_runU (As := [.int (nI 2)]) (rest := []) (C := RX11) (owner := "ThunderCasks$Cask") S (k5_X6_told l t r x n 2 hn (by decide)) (va_cwU 1 hts (lw_U q597 q1714 q1719 q545 q110 q546) rfl rfl rfl rfl (by decide +kernel) ⟨Nat.le_of_ble_eq_true rfl, Nat.le_of_ble_eq_true rfl⟩) ⟨c_blind, c_recv5 hK hP hn, c_pre hK hP⟩ rfl rfl hl.1 rfl (lv_room (Nat.le_of_ble_eq_true rfl)) dX6_loud_2 ⟨Nat.le_refl _, Nat.le_refl _⟩).run) ?_
  exact kk_iretR S hr hlk rfl rfl (rfl) dX6_loud_5
set_option maxHeartbeats 4000000 in
set_option maxRecDepth 100000 in
theorem k5_X11_loud (l : Launch) (t : CT) (r : Rw) (x : Nat → Rw) (n : Nat) (hn : n < 8) : Met l yX11_loud (ws_ yX11_loud cX11_loud 1 (some .int)) (rmF 0) (va_Pc [.ref (t.2.1 (600 + (8 * 5 + n)))] (fun U => cK t U ∧ cX t r x U.heap)) (kR (some (.int (0)))) 0 0 (fun _ => False) := by
  refine kk_start (by decide) (Nat.le_of_ble_eq_true rfl) ?_
  intro p e s m below meth c S hr hlk hin hB ls hl
  obtain ⟨hK, hP⟩ := hB
  have hx := S.1
  have hb := S.2.1
  have hown : s.vm.findClass RX11 = some m.cls := S.2.2.2.1
  have hts := S.2.2.2.2
  have hl : lv_has ls 1 [(0, .ref (t.2.1 (600 + (8 * 5 + n))))] := hl
  refine lv_iconst (v := 0) hx hb dX11_loud_0 (by decide) ?_
  exact kk_iretR S hr hlk rfl rfl (rfl) dX11_loud_1
set_option maxHeartbeats 4000000 in
set_option maxRecDepth 100000 in
theorem k5_X6_leaks (l : Launch) (t : CT) (r : Rw) (x : Nat → Rw) (n : Nat) (hn : n < 8) : Met l yX6_leaks (ws_ yX6_leaks cX6_leaks 1 (some .int)) (rmF 0) (va_Pc [.ref (t.2.1 (600 + (8 * 5 + n)))] (fun U => cK t U ∧ cX t r x U.heap)) (kR (some (.int (1)))) 0 0 (fun _ => False) := by
  refine kk_start (by decide) (Nat.le_of_ble_eq_true rfl) ?_
  intro p e s m below meth c S hr hlk hin hB ls hl
  obtain ⟨hK, hP⟩ := hB
  have hx := S.1
  have hb := S.2.1
  have hown : s.vm.findClass RX6 = some m.cls := S.2.2.2.1
  have hts := S.2.2.2.2
  have hl : lv_has ls 1 [(0, .ref (t.2.1 (600 + (8 * 5 + n))))] := hl
  refine lv_iconst (v := 1) hx hb dX6_leaks_0 (by decide) ?_
  exact kk_iretR S hr hlk rfl rfl (rfl) dX6_leaks_1
set_option maxHeartbeats 4000000 in
set_option maxRecDepth 100000 in
theorem k5_X11_leaks (l : Launch) (t : CT) (r : Rw) (x : Nat → Rw) (n : Nat) (hn : n < 8) : Met l yX11_leaks (ws_ yX11_leaks cX11_leaks 1 (some .int)) (rmF 1) (va_Pc [.ref (t.2.1 (600 + (8 * 5 + n)))] (fun U => cK t U ∧ cX t r x U.heap)) (kR (some (.int (5)))) 0 0 (fun _ => False) := by
  refine kk_start (by decide) (Nat.le_of_ble_eq_true rfl) ?_
  intro p e s m below meth c S hr hlk hin hB ls hl
  obtain ⟨hK, hP⟩ := hB
  have hx := S.1
  have hb := S.2.1
  have hown : s.vm.findClass RX11 = some m.cls := S.2.2.2.1
  have hts := S.2.2.2.2
  have hl : lv_has ls 1 [(0, .ref (t.2.1 (600 + (8 * 5 + n))))] := hl
  refine lv_aload_n hx hb dX11_leaks_0 rfl (lv_at hl 0 rfl) ?_
  refine kk_Ri ((va_runSU (As := []) (rest := []) (C := RX11) (hK.1.1 11 _ rfl).2 S (k5_X6_leaks l t r x n hn) (va_cwSU 0 hts (lw_SU q616 q601 q387 q599 q110 q619) rfl rfl rfl (by decide +kernel) ⟨Nat.le_of_ble_eq_true rfl, Nat.le_of_ble_eq_true rfl⟩) ⟨c_blind, c_recv5 hK hP hn, c_pre hK hP⟩ rfl rfl hl.1 rfl (lv_room (Nat.le_of_ble_eq_true rfl)) dX11_leaks_1 ⟨Nat.le_refl _, Nat.le_refl _⟩).run) ?_
  refine lv_iconst (v := 4) hx hb dX11_leaks_4 (by decide) ?_
  refine lv_iadd hx hb dX11_leaks_5 ?_
  exact kk_iretR S hr hlk rfl rfl (by decide) dX11_leaks_6
set_option maxHeartbeats 4000000 in
set_option maxRecDepth 100000 in
theorem k5_X6_bears (l : Launch) (t : CT) (r : Rw) (x : Nat → Rw) (n : Nat) (b : Nat) (hn : n < 8) (hV : pV b r) : Met l yX6_bears (ws_ yX6_bears cX6_bears 1 (some .int)) (rmF 1) (va_Pc [.ref (t.2.1 (600 + (8 * 5 + n)))] (fun U => cK t U ∧ cX t r x U.heap)) (kR (some (.int (p_plain r n)))) 0 0 (fun _ => False) := by
  refine kk_start (by decide) (Nat.le_of_ble_eq_true rfl) ?_
  intro p e s m below meth c S hr hlk hin hB ls hl
  obtain ⟨hK, hP⟩ := hB
  have hx := S.1
  have hb := S.2.1
  have hown : s.vm.findClass RX6 = some m.cls := S.2.2.2.1
  have hts := S.2.2.2.2
  have hl : lv_has ls 1 [(0, .ref (t.2.1 (600 + (8 * 5 + n))))] := hl
  have hc1 := hV.c hn
  refine lv_iconst (v := 0) hx hb dX6_bears_0 (by decide) ?_
  refine lv_aload_n hx hb dX6_bears_1 rfl (lv_at hl 0 rfl) ?_
  refine lv_iconst (v := 4) hx hb dX6_bears_2 (by decide) ?_
  refine kk_Ri ((va_runU (As := [.int (nI 4)]) (rest := [.int (0)]) (C := RX11) (owner := "ThunderCasks$Cask") S (k5_X6_told l t r x n 4 hn (by decide)) (va_cwU 1 hts (lw_U q597 q1714 q1719 q545 q110 q546) rfl rfl rfl rfl (by decide +kernel) ⟨Nat.le_of_ble_eq_true rfl, Nat.le_of_ble_eq_true rfl⟩) ⟨c_blind, c_recv5 hK hP hn, c_pre hK hP⟩ rfl rfl hl.1 rfl (lv_room (Nat.le_of_ble_eq_true rfl)) dX6_bears_3 ⟨Nat.le_refl _, Nat.le_refl _⟩).run) ?_
  refine lv_iconst (v := 5) hx hb dX6_bears_6 (by decide) ?_
  refine lv_aload_n hx hb dX6_bears_7 rfl (lv_at hl 0 rfl) ?_
  refine co_get (v := .ref (t.2.1 0)) S hK.1 (ci := 11) (T := TX11) (N := 3) rfl in_X11 (hP.ob 5 n (by decide) hn) 1 (by decide) (hts _ q329) rfl rfl dX6_bears_8 ?_
  refine co_getN (v := .ref (t.2.1 100)) S hK.1 (ci := 0) (T := TX0) (N := 12) rfl in_X0 (hP 0 0 (by decide) (by decide)) 3 (by decide) (hK.f (w := ("ThunderCasks$Cask", 23, "ThunderCasks", "d", "LThunderCasks$World;", "ThunderCasks")) 21 rfl _) rfl rfl dX6_bears_11 ?_
  refine ck6_frost S hK hP dX6_bears_14 ?_
  refine lv_aload_n hx hb dX6_bears_17 rfl (lv_at hl 0 rfl) ?_
  refine lv_iconst (v := 1) hx hb dX6_bears_18 (by decide) ?_
  refine kk_Ri ((va_runU (As := [.int (nI 1)]) (rest := [.ref (t.2.1 101), .int (5), .int (r (16 + 7 * n + 4)), .int (0)]) (C := RX11) (owner := "ThunderCasks$Cask") S (k5_X6_told l t r x n 1 hn (by decide)) (va_cwU 1 hts (lw_U q597 q1714 q1719 q545 q110 q546) rfl rfl rfl rfl (by decide +kernel) ⟨Nat.le_of_ble_eq_true rfl, Nat.le_of_ble_eq_true rfl⟩) ⟨c_blind, c_recv5 hK hP hn, c_pre hK hP⟩ rfl rfl hl.1 rfl (lv_room (Nat.le_of_ble_eq_true rfl)) dX6_bears_19 ⟨Nat.le_refl _, Nat.le_refl _⟩).run) ?_
  refine ck_ldf S hK hP ((pC r n)) hc1.2 hc1.1 dX6_bears_22 ?_
  refine lv_imul hx hb dX6_bears_23 ?_
  refine lv_isub hx hb dX6_bears_24 ?_
  refine c6_max S (rm_ok (Nat.le_of_ble_eq_true rfl)) hl.1 (Nat.le_of_ble_eq_true rfl) dX6_bears_25 ?_
  exact kk_iretR S hr hlk rfl rfl (rfl) dX6_bears_28
set_option maxHeartbeats 4000000 in
set_option maxRecDepth 100000 in
theorem k6_X6_told (l : Launch) (t : CT) (r : Rw) (x : Nat → Rw) (n : Nat) (w : Nat) (hn : n < 8) (hw : w < 7) : Met l yX6_told (ws_ yX6_told cX6_told 2 (some .int)) (rmF 0) (va_Pc [.ref (t.2.1 (600 + (8 * 6 + n))), .int (nI w)] (fun U => cK t U ∧ cX t r x U.heap)) (kR (some (.int (r (16 + 7 * n + w))))) 0 0 (fun _ => False) := by
  refine kk_start (by decide) (Nat.le_of_ble_eq_true rfl) ?_
  intro p e s m below meth c S hr hlk hin hB ls hl
  obtain ⟨hK, hP⟩ := hB
  have hx := S.1
  have hb := S.2.1
  have hown : s.vm.findClass RX6 = some m.cls := S.2.2.2.1
  have hts := S.2.2.2.2
  have hl : lv_has ls 2 [(0, .ref (t.2.1 (600 + (8 * 6 + n)))), (1, .int ((nI w)))] := hl
  refine lv_aload_n hx hb dX6_told_0 rfl (lv_at hl 0 rfl) ?_
  refine co_get (v := .ref (t.2.1 0)) S hK.1 (ci := 12) (T := TX12) (N := 4) rfl in_X12 (hP.ob 6 n (by decide) hn) 1 (by decide) (hts _ q329) rfl rfl dX6_told_1 ?_
  refine co_getN (v := .ref (t.2.1 100)) S hK.1 (ci := 0) (T := TX0) (N := 12) rfl in_X0 (hP 0 0 (by decide) (by decide)) 3 (by decide) (hK.f (w := ("ThunderCasks$Cask", 23, "ThunderCasks", "d", "LThunderCasks$World;", "ThunderCasks")) 21 rfl _) rfl rfl dX6_told_4 ?_
  refine ck6_cask S hK hP dX6_told_7 ?_
  refine lv_iload_n hx hb dX6_told_10 rfl (lv_at hl 1 rfl) ?_
  refine ck_aald S hK hP (w) (by omega) rfl dX6_told_11 ?_
  refine lv_aload_n hx hb dX6_told_12 rfl (lv_at hl 0 rfl) ?_
  refine co_get (v := .int (nI n)) S hK.1 (ci := 12) (T := TX12) (N := 4) rfl in_X12 (hP.ob 6 n (by decide) hn) 0 (by decide) (hts _ q327) rfl rfl dX6_told_13 ?_
  refine ck_ldc S hK hP (w) (by omega) (n) (by omega) rfl dX6_told_16 ?_
  exact kk_iretR S hr hlk rfl rfl (rfl) dX6_told_17
set_option maxHeartbeats 4000000 in
set_option maxRecDepth 100000 in
theorem k6_X6_kind (l : Launch) (t : CT) (r : Rw) (x : Nat → Rw) (n : Nat) (hn : n < 8) : Met l yX6_kind (ws_ yX6_kind cX6_kind 1 (some .int)) (rmF 0) (va_Pc [.ref (t.2.1 (600 + (8 * 6 + n)))] (fun U => cK t U ∧ cX t r x U.heap)) (kR (some (.int (0)))) 0 0 (fun _ => False) := by
  refine kk_start (by decide) (Nat.le_of_ble_eq_true rfl) ?_
  intro p e s m below meth c S hr hlk hin hB ls hl
  obtain ⟨hK, hP⟩ := hB
  have hx := S.1
  have hb := S.2.1
  have hown : s.vm.findClass RX6 = some m.cls := S.2.2.2.1
  have hts := S.2.2.2.2
  have hl : lv_has ls 1 [(0, .ref (t.2.1 (600 + (8 * 6 + n))))] := hl
  refine lv_iconst (v := 0) hx hb dX6_kind_0 (by decide) ?_
  exact kk_iretR S hr hlk rfl rfl (rfl) dX6_kind_1
set_option maxHeartbeats 4000000 in
set_option maxRecDepth 100000 in
theorem k6_X7_kind (l : Launch) (t : CT) (r : Rw) (x : Nat → Rw) (n : Nat) (hn : n < 8) : Met l yX7_kind (ws_ yX7_kind cX7_kind 1 (some .int)) (rmF 1) (va_Pc [.ref (t.2.1 (600 + (8 * 6 + n)))] (fun U => cK t U ∧ cX t r x U.heap)) (kR (some (.int (1)))) 0 0 (fun _ => False) := by
  refine kk_start (by decide) (Nat.le_of_ble_eq_true rfl) ?_
  intro p e s m below meth c S hr hlk hin hB ls hl
  obtain ⟨hK, hP⟩ := hB
  have hx := S.1
  have hb := S.2.1
  have hown : s.vm.findClass RX7 = some m.cls := S.2.2.2.1
  have hts := S.2.2.2.2
  have hl : lv_has ls 1 [(0, .ref (t.2.1 (600 + (8 * 6 + n))))] := hl
  refine lv_iconst (v := 1) hx hb dX7_kind_0 (by decide) ?_
  refine lv_aload_n hx hb dX7_kind_1 rfl (lv_at hl 0 rfl) ?_
  refine kk_Ri ((va_runSU (As := []) (rest := [.int (1)]) (C := RX12) (hK.1.1 12 _ rfl).2 S (k6_X6_kind l t r x n hn) (va_cwSU 0 hts (lw_SU q510 q506 q336 q504 q110 q531) rfl rfl rfl (by decide +kernel) ⟨Nat.le_of_ble_eq_true rfl, Nat.le_of_ble_eq_true rfl⟩) ⟨c_blind, c_recv6 hK hP hn, c_pre hK hP⟩ rfl rfl hl.1 rfl (lv_room (Nat.le_of_ble_eq_true rfl)) dX7_kind_2 ⟨Nat.le_refl _, Nat.le_refl _⟩).run) ?_
  refine lv_iadd hx hb dX7_kind_5 ?_
  exact kk_iretR S hr hlk rfl rfl (by decide) dX7_kind_6
set_option maxHeartbeats 4000000 in
set_option maxRecDepth 100000 in
theorem k6_X12_kind (l : Launch) (t : CT) (r : Rw) (x : Nat → Rw) (n : Nat) (hn : n < 8) : Met l yX12_kind (ws_ yX12_kind cX12_kind 1 (some .int)) (rmF 2) (va_Pc [.ref (t.2.1 (600 + (8 * 6 + n)))] (fun U => cK t U ∧ cX t r x U.heap)) (kR (some (.int (6)))) 0 0 (fun _ => False) := by
  refine kk_start (by decide) (Nat.le_of_ble_eq_true rfl) ?_
  intro p e s m below meth c S hr hlk hin hB ls hl
  obtain ⟨hK, hP⟩ := hB
  have hx := S.1
  have hb := S.2.1
  have hown : s.vm.findClass RX12 = some m.cls := S.2.2.2.1
  have hts := S.2.2.2.2
  have hl : lv_has ls 1 [(0, .ref (t.2.1 (600 + (8 * 6 + n))))] := hl
  refine lv_iconst (v := 5) hx hb dX12_kind_0 (by decide) ?_
  refine lv_aload_n hx hb dX12_kind_1 rfl (lv_at hl 0 rfl) ?_
  refine kk_Ri ((va_runSU (As := []) (rest := [.int (5)]) (C := RX12) (hK.1.1 12 _ rfl).2 S (k6_X7_kind l t r x n hn) (va_cwSU 0 hts (lw_SU q524 q1710 q400 q508 q111 q509) rfl rfl rfl (by decide +kernel) ⟨Nat.le_of_ble_eq_true rfl, Nat.le_of_ble_eq_true rfl⟩) ⟨c_blind, c_recv6 hK hP hn, c_pre hK hP⟩ rfl rfl hl.1 rfl (lv_room (Nat.le_of_ble_eq_true rfl)) dX12_kind_2 ⟨Nat.le_refl _, Nat.le_refl _⟩).run) ?_
  refine lv_iadd hx hb dX12_kind_5 ?_
  exact kk_iretR S hr hlk rfl rfl (by decide) dX12_kind_6
set_option maxHeartbeats 4000000 in
set_option maxRecDepth 100000 in
theorem k6_X6_isUnder (l : Launch) (t : CT) (r : Rw) (x : Nat → Rw) (n : Nat) (v : Int32) (hn : n < 8) : Met l yX6_isUnder (ws_ yX6_isUnder cX6_isUnder 2 (some .boolean)) (rmF 3) (va_Pc [.ref (t.2.1 (600 + (8 * 6 + n))), .int v] (fun U => cK t U ∧ cX t r x U.heap)) (kR (some (.int (b2i ((v = 0 ∨ v = 6)))))) 0 0 (fun _ => False) := by
  refine kk_start (by decide) (Nat.le_of_ble_eq_true rfl) ?_
  intro p e s m below meth c S hr hlk hin hB ls hl
  obtain ⟨hK, hP⟩ := hB
  have hx := S.1
  have hb := S.2.1
  have hown : s.vm.findClass RX6 = some m.cls := S.2.2.2.1
  have hts := S.2.2.2.2
  have hl : lv_has ls 2 [(0, .ref (t.2.1 (600 + (8 * 6 + n)))), (1, .int (v))] := hl
  refine lv_iload_n hx hb dX6_isUnder_0 rfl (lv_at hl 1 rfl) ?_
  refine lv_if_eq (tgt := 12) hx hb dX6_isUnder_1 (by decide) (fun c_1 => ?_) (fun c_1 => ?_)
  · skip
    refine lv_iconst (v := 1) hx hb dX6_isUnder_12 (by decide) ?_
    refine lv_goto (tgt := 17) hx hb dX6_isUnder_13 (by decide) ?_
    exact kk_ztR S hr hlk rfl rfl (by grind) dX6_isUnder_17
  · skip
    refine lv_iload_n hx hb dX6_isUnder_4 rfl (lv_at hl 1 rfl) ?_
    refine lv_aload_n hx hb dX6_isUnder_5 rfl (lv_at hl 0 rfl) ?_
    refine kk_Ri ((va_runU (As := []) (rest := [.int (v)]) (C := RX12) (owner := "ThunderCasks$Cask") S (k6_X12_kind l t r x n hn) (va_cwO 0 hts (lw_O q1166 q506 q504 q521 q522 q116 q523) rfl rfl rfl q531 (by decide +kernel) ⟨Nat.le_of_ble_eq_true rfl, Nat.le_of_ble_eq_true rfl⟩) ⟨c_blind, c_recv6 hK hP hn, c_pre hK hP⟩ rfl rfl hl.1 rfl (lv_room (Nat.le_of_ble_eq_true rfl)) dX6_isUnder_6 ⟨Nat.le_refl _, Nat.le_refl _⟩).run) ?_
    refine lv_icmp_ne (tgt := 16) hx hb dX6_isUnder_9 (by decide) (fun c_9 => ?_) (fun c_9 => ?_)
    · skip
      refine lv_iconst (v := 0) hx hb dX6_isUnder_16 (by decide) ?_
      exact kk_zfR S hr hlk rfl rfl (by grind) dX6_isUnder_17
    · skip
      refine lv_iconst (v := 1) hx hb dX6_isUnder_12 (by decide) ?_
      refine lv_goto (tgt := 17) hx hb dX6_isUnder_13 (by decide) ?_
      exact kk_ztR S hr hlk rfl rfl (by grind) dX6_isUnder_17
set_option maxHeartbeats 4000000 in
set_option maxRecDepth 100000 in
theorem k6_X7_isUnder (l : Launch) (t : CT) (r : Rw) (x : Nat → Rw) (n : Nat) (v : Int32) (hn : n < 8) : Met l yX7_isUnder (ws_ yX7_isUnder cX7_isUnder 2 (some .boolean)) (rmF 4) (va_Pc [.ref (t.2.1 (600 + (8 * 6 + n))), .int v] (fun U => cK t U ∧ cX t r x U.heap)) (kR (some (.int (b2i ((v = 1 ∨ (v = 0 ∨ v = 6))))))) 0 0 (fun _ => False) := by
  refine kk_start (by decide) (Nat.le_of_ble_eq_true rfl) ?_
  intro p e s m below meth c S hr hlk hin hB ls hl
  obtain ⟨hK, hP⟩ := hB
  have hx := S.1
  have hb := S.2.1
  have hown : s.vm.findClass RX7 = some m.cls := S.2.2.2.1
  have hts := S.2.2.2.2
  have hl : lv_has ls 2 [(0, .ref (t.2.1 (600 + (8 * 6 + n)))), (1, .int (v))] := hl
  refine lv_iload_n hx hb dX7_isUnder_0 rfl (lv_at hl 1 rfl) ?_
  refine lv_iconst (v := 1) hx hb dX7_isUnder_1 (by decide) ?_
  refine lv_icmp_eq (tgt := 13) hx hb dX7_isUnder_2 (by decide) (fun c_2 => ?_) (fun c_2 => ?_)
  · skip
    refine lv_iconst (v := 1) hx hb dX7_isUnder_13 (by decide) ?_
    refine lv_goto (tgt := 18) hx hb dX7_isUnder_14 (by decide) ?_
    exact kk_ztR S hr hlk rfl rfl (by grind) dX7_isUnder_18
  · skip
    refine lv_aload_n hx hb dX7_isUnder_5 rfl (lv_at hl 0 rfl) ?_
    refine lv_iload_n hx hb dX7_isUnder_6 rfl (lv_at hl 1 rfl) ?_
    refine kk_Ri ((va_runSU (As := [.int v]) (rest := []) (C := RX12) (hK.1.1 12 _ rfl).2 S (k6_X6_isUnder l t r x n v hn) (va_cwSU 1 hts (lw_SU q1153 q1149 q336 q1147 q110 q1165) rfl rfl rfl (by decide +kernel) ⟨Nat.le_of_ble_eq_true rfl, Nat.le_of_ble_eq_true rfl⟩) ⟨c_blind, c_recv6 hK hP hn, c_pre hK hP⟩ rfl rfl hl.1 rfl (lv_room (Nat.le_of_ble_eq_true rfl)) dX7_isUnder_7 ⟨Nat.le_refl _, Nat.le_refl _⟩).run) ?_
    refine kb_ifeq (tgt := 17) S dX7_isUnder_10 (by decide) (fun c_10 => ?_) (fun c_10 => ?_)
    · skip
      refine lv_iconst (v := 0) hx hb dX7_isUnder_17 (by decide) ?_
      exact kk_zfR S hr hlk rfl rfl (by grind) dX7_isUnder_18
    · skip
      refine lv_iconst (v := 1) hx hb dX7_isUnder_13 (by decide) ?_
      refine lv_goto (tgt := 18) hx hb dX7_isUnder_14 (by decide) ?_
      exact kk_ztR S hr hlk rfl rfl (by grind) dX7_isUnder_18
set_option maxHeartbeats 4000000 in
set_option maxRecDepth 100000 in
theorem k6_X6_loud (l : Launch) (t : CT) (r : Rw) (x : Nat → Rw) (n : Nat) (hn : n < 8) : Met l yX6_loud (ws_ yX6_loud cX6_loud 1 (some .int)) (rmF 1) (va_Pc [.ref (t.2.1 (600 + (8 * 6 + n)))] (fun U => cK t U ∧ cX t r x U.heap)) (kR (some (.int (r (16 + 7 * n + 2))))) 0 0 (fun _ => False) := by
  refine kk_start (by decide) (Nat.le_of_ble_eq_true rfl) ?_
  intro p e s m below meth c S hr hlk hin hB ls hl
  obtain ⟨hK, hP⟩ := hB
  have hx := S.1
  have hb := S.2.1
  have hown : s.vm.findClass RX6 = some m.cls := S.2.2.2.1
  have hts := S.2.2.2.2
  have hl : lv_has ls 1 [(0, .ref (t.2.1 (600 + (8 * 6 + n))))] := hl
  refine lv_aload_n hx hb dX6_loud_0 rfl (lv_at hl 0 rfl) ?_
  refine lv_iconst (v := 2) hx hb dX6_loud_1 (by decide) ?_
  refine kk_Ri ((va_runU (As := [.int (nI 2)]) (rest := []) (C := RX12) (owner := "ThunderCasks$Cask") S (k6_X6_told l t r x n 2 hn (by decide)) (va_cwU 1 hts (lw_U q597 q1714 q1718 q545 q110 q546) rfl rfl rfl rfl (by decide +kernel) ⟨Nat.le_of_ble_eq_true rfl, Nat.le_of_ble_eq_true rfl⟩) ⟨c_blind, c_recv6 hK hP hn, c_pre hK hP⟩ rfl rfl hl.1 rfl (lv_room (Nat.le_of_ble_eq_true rfl)) dX6_loud_2 ⟨Nat.le_refl _, Nat.le_refl _⟩).run) ?_
  exact kk_iretR S hr hlk rfl rfl (rfl) dX6_loud_5
set_option maxHeartbeats 4000000 in
set_option maxRecDepth 100000 in
theorem k6_X7_loud (l : Launch) (t : CT) (r : Rw) (x : Nat → Rw) (n : Nat) (hn : n < 8) : Met l yX7_loud (ws_ yX7_loud cX7_loud 1 (some .int)) (rmF 2) (va_Pc [.ref (t.2.1 (600 + (8 * 6 + n)))] (fun U => cK t U ∧ cX t r x U.heap)) (kR (some (.int (p_crack r n)))) 0 0 (fun _ => False) := by
  refine kk_start (by decide) (Nat.le_of_ble_eq_true rfl) ?_
  intro p e s m below meth c S hr hlk hin hB ls hl
  obtain ⟨hK, hP⟩ := hB
  have hx := S.1
  have hb := S.2.1
  have hown : s.vm.findClass RX7 = some m.cls := S.2.2.2.1
  have hts := S.2.2.2.2
  have hl : lv_has ls 1 [(0, .ref (t.2.1 (600 + (8 * 6 + n))))] := hl
  refine lv_iconst (v := 0) hx hb dX7_loud_0 (by decide) ?_
  refine lv_iconst (v := 2) hx hb dX7_loud_1 (by decide) ?_
  refine lv_aload_n hx hb dX7_loud_2 rfl (lv_at hl 0 rfl) ?_
  refine kk_Ri ((va_runSU (As := []) (rest := [.int (2), .int (0)]) (C := RX12) (hK.1.1 12 _ rfl).2 S (k6_X6_loud l t r x n hn) (va_cwSU 0 hts (lw_SU q539 q535 q336 q533 q110 q596) rfl rfl rfl (by decide +kernel) ⟨Nat.le_of_ble_eq_true rfl, Nat.le_of_ble_eq_true rfl⟩) ⟨c_blind, c_recv6 hK hP hn, c_pre hK hP⟩ rfl rfl hl.1 rfl (lv_room (Nat.le_of_ble_eq_true rfl)) dX7_loud_3 ⟨Nat.le_refl _, Nat.le_refl _⟩).run) ?_
  refine lv_imul hx hb dX7_loud_6 ?_
  refine lv_aload_n hx hb dX7_loud_7 rfl (lv_at hl 0 rfl) ?_
  refine lv_iconst (v := 5) hx hb dX7_loud_8 (by decide) ?_
  refine kk_Ri ((va_runU (As := [.int (nI 5)]) (rest := [.int ((2 * r (16 + 7 * n + 2))), .int (0)]) (C := RX12) (owner := "ThunderCasks$Cask") S (k6_X6_told l t r x n 5 hn (by decide)) (va_cwU 1 hts (lw_U q540 q541 q544 q545 q110 q546) rfl rfl rfl rfl (by decide +kernel) ⟨Nat.le_of_ble_eq_true rfl, Nat.le_of_ble_eq_true rfl⟩) ⟨c_blind, c_recv6 hK hP hn, c_pre hK hP⟩ rfl rfl hl.1 rfl (lv_room (Nat.le_of_ble_eq_true rfl)) dX7_loud_9 ⟨Nat.le_refl _, Nat.le_refl _⟩).run) ?_
  refine lv_isub hx hb dX7_loud_12 ?_
  refine c7_max S (rm_ok (Nat.le_of_ble_eq_true rfl)) hl.1 (Nat.le_of_ble_eq_true rfl) dX7_loud_13 ?_
  exact kk_iretR S hr hlk rfl rfl (rfl) dX7_loud_16
set_option maxHeartbeats 4000000 in
set_option maxRecDepth 100000 in
theorem k6_X12_loud (l : Launch) (t : CT) (r : Rw) (x : Nat → Rw) (n : Nat) (hn : n < 8) : Met l yX12_loud (ws_ yX12_loud cX12_loud 1 (some .int)) (rmF 3) (va_Pc [.ref (t.2.1 (600 + (8 * 6 + n)))] (fun U => cK t U ∧ cX t r x U.heap)) (kR (some (.int (if 10 ≤ r (16 + 7 * n + 5) then 0 else p_crack r n)))) 0 0 (fun _ => False) := by
  refine kk_start (by decide) (Nat.le_of_ble_eq_true rfl) ?_
  intro p e s m below meth c S hr hlk hin hB ls hl
  obtain ⟨hK, hP⟩ := hB
  have hx := S.1
  have hb := S.2.1
  have hown : s.vm.findClass RX12 = some m.cls := S.2.2.2.1
  have hts := S.2.2.2.2
  have hl : lv_has ls 1 [(0, .ref (t.2.1 (600 + (8 * 6 + n))))] := hl
  refine lv_aload_n hx hb dX12_loud_0 rfl (lv_at hl 0 rfl) ?_
  refine lv_iconst (v := 5) hx hb dX12_loud_1 (by decide) ?_
  refine kk_Ri ((va_runU (As := [.int (nI 5)]) (rest := []) (C := RX12) (owner := "ThunderCasks$Cask") S (k6_X6_told l t r x n 5 hn (by decide)) (va_cwU 1 hts (lw_U q587 q588 q589 q545 q110 q546) rfl rfl rfl rfl (by decide +kernel) ⟨Nat.le_of_ble_eq_true rfl, Nat.le_of_ble_eq_true rfl⟩) ⟨c_blind, c_recv6 hK hP hn, c_pre hK hP⟩ rfl rfl hl.1 rfl (lv_room (Nat.le_of_ble_eq_true rfl)) dX12_loud_2 ⟨Nat.le_refl _, Nat.le_refl _⟩).run) ?_
  refine lv_bipush (v := 10) hx hb dX12_loud_5 (by decide) ?_
  refine lv_icmp_lt (tgt := 14) hx hb dX12_loud_7 (by decide) (fun c_7 => ?_) (fun c_7 => ?_)
  · skip
    refine lv_aload_n hx hb dX12_loud_14 rfl (lv_at hl 0 rfl) ?_
    refine kk_Ri ((va_runSU (As := []) (rest := []) (C := RX12) (hK.1.1 12 _ rfl).2 S (k6_X7_loud l t r x n hn) (va_cwSU 0 hts (lw_SU q590 q1713 q400 q537 q111 q538) rfl rfl rfl (by decide +kernel) ⟨Nat.le_of_ble_eq_true rfl, Nat.le_of_ble_eq_true rfl⟩) ⟨c_blind, c_recv6 hK hP hn, c_pre hK hP⟩ rfl rfl hl.1 rfl (lv_room (Nat.le_of_ble_eq_true rfl)) dX12_loud_15 ⟨Nat.le_refl _, Nat.le_refl _⟩).run) ?_
    exact kk_iretR S hr hlk rfl rfl (by rw [if_neg (by grind)]) dX12_loud_18
  · skip
    refine lv_iconst (v := 0) hx hb dX12_loud_10 (by decide) ?_
    refine lv_goto (tgt := 18) hx hb dX12_loud_11 (by decide) ?_
    exact kk_iretR S hr hlk rfl rfl (by rw [if_pos (by grind)]) dX12_loud_18
set_option maxHeartbeats 4000000 in
set_option maxRecDepth 100000 in
theorem k6_X6_leaks (l : Launch) (t : CT) (r : Rw) (x : Nat → Rw) (n : Nat) (hn : n < 8) : Met l yX6_leaks (ws_ yX6_leaks cX6_leaks 1 (some .int)) (rmF 0) (va_Pc [.ref (t.2.1 (600 + (8 * 6 + n)))] (fun U => cK t U ∧ cX t r x U.heap)) (kR (some (.int (1)))) 0 0 (fun _ => False) := by
  refine kk_start (by decide) (Nat.le_of_ble_eq_true rfl) ?_
  intro p e s m below meth c S hr hlk hin hB ls hl
  obtain ⟨hK, hP⟩ := hB
  have hx := S.1
  have hb := S.2.1
  have hown : s.vm.findClass RX6 = some m.cls := S.2.2.2.1
  have hts := S.2.2.2.2
  have hl : lv_has ls 1 [(0, .ref (t.2.1 (600 + (8 * 6 + n))))] := hl
  refine lv_iconst (v := 1) hx hb dX6_leaks_0 (by decide) ?_
  exact kk_iretR S hr hlk rfl rfl (rfl) dX6_leaks_1
set_option maxHeartbeats 4000000 in
set_option maxRecDepth 100000 in
theorem k6_X7_leaks (l : Launch) (t : CT) (r : Rw) (x : Nat → Rw) (n : Nat) (hn : n < 8) : Met l yX7_leaks (ws_ yX7_leaks cX7_leaks 1 (some .int)) (rmF 1) (va_Pc [.ref (t.2.1 (600 + (8 * 6 + n)))] (fun U => cK t U ∧ cX t r x U.heap)) (kR (some (.int (3)))) 0 0 (fun _ => False) := by
  refine kk_start (by decide) (Nat.le_of_ble_eq_true rfl) ?_
  intro p e s m below meth c S hr hlk hin hB ls hl
  obtain ⟨hK, hP⟩ := hB
  have hx := S.1
  have hb := S.2.1
  have hown : s.vm.findClass RX7 = some m.cls := S.2.2.2.1
  have hts := S.2.2.2.2
  have hl : lv_has ls 1 [(0, .ref (t.2.1 (600 + (8 * 6 + n))))] := hl
  refine lv_aload_n hx hb dX7_leaks_0 rfl (lv_at hl 0 rfl) ?_
  refine kk_Ri ((va_runSU (As := []) (rest := []) (C := RX12) (hK.1.1 12 _ rfl).2 S (k6_X6_leaks l t r x n hn) (va_cwSU 0 hts (lw_SU q605 q601 q336 q599 q110 q619) rfl rfl rfl (by decide +kernel) ⟨Nat.le_of_ble_eq_true rfl, Nat.le_of_ble_eq_true rfl⟩) ⟨c_blind, c_recv6 hK hP hn, c_pre hK hP⟩ rfl rfl hl.1 rfl (lv_room (Nat.le_of_ble_eq_true rfl)) dX7_leaks_1 ⟨Nat.le_refl _, Nat.le_refl _⟩).run) ?_
  refine lv_iconst (v := 2) hx hb dX7_leaks_4 (by decide) ?_
  refine lv_iadd hx hb dX7_leaks_5 ?_
  exact kk_iretR S hr hlk rfl rfl (by decide) dX7_leaks_6
set_option maxHeartbeats 4000000 in
set_option maxRecDepth 100000 in
theorem k6_X12_leaks (l : Launch) (t : CT) (r : Rw) (x : Nat → Rw) (n : Nat) (hn : n < 8) : Met l yX12_leaks (ws_ yX12_leaks cX12_leaks 1 (some .int)) (rmF 2) (va_Pc [.ref (t.2.1 (600 + (8 * 6 + n)))] (fun U => cK t U ∧ cX t r x U.heap)) (kR (some (.int (5)))) 0 0 (fun _ => False) := by
  refine kk_start (by decide) (Nat.le_of_ble_eq_true rfl) ?_
  intro p e s m below meth c S hr hlk hin hB ls hl
  obtain ⟨hK, hP⟩ := hB
  have hx := S.1
  have hb := S.2.1
  have hown : s.vm.findClass RX12 = some m.cls := S.2.2.2.1
  have hts := S.2.2.2.2
  have hl : lv_has ls 1 [(0, .ref (t.2.1 (600 + (8 * 6 + n))))] := hl
  refine lv_aload_n hx hb dX12_leaks_0 rfl (lv_at hl 0 rfl) ?_
  refine kk_Ri ((va_runSU (As := []) (rest := []) (C := RX12) (hK.1.1 12 _ rfl).2 S (k6_X7_leaks l t r x n hn) (va_cwSU 0 hts (lw_SU q612 q1722 q400 q603 q111 q604) rfl rfl rfl (by decide +kernel) ⟨Nat.le_of_ble_eq_true rfl, Nat.le_of_ble_eq_true rfl⟩) ⟨c_blind, c_recv6 hK hP hn, c_pre hK hP⟩ rfl rfl hl.1 rfl (lv_room (Nat.le_of_ble_eq_true rfl)) dX12_leaks_1 ⟨Nat.le_refl _, Nat.le_refl _⟩).run) ?_
  refine lv_iconst (v := 2) hx hb dX12_leaks_4 (by decide) ?_
  refine lv_iadd hx hb dX12_leaks_5 ?_
  exact kk_iretR S hr hlk rfl rfl (by decide) dX12_leaks_6
set_option maxHeartbeats 4000000 in
set_option maxRecDepth 100000 in
theorem k6_X6_bears (l : Launch) (t : CT) (r : Rw) (x : Nat → Rw) (n : Nat) (b : Nat) (hn : n < 8) (hV : pV b r) : Met l yX6_bears (ws_ yX6_bears cX6_bears 1 (some .int)) (rmF 1) (va_Pc [.ref (t.2.1 (600 + (8 * 6 + n)))] (fun U => cK t U ∧ cX t r x U.heap)) (kR (some (.int (p_plain r n)))) 0 0 (fun _ => False) := by
  refine kk_start (by decide) (Nat.le_of_ble_eq_true rfl) ?_
  intro p e s m below meth c S hr hlk hin hB ls hl
  obtain ⟨hK, hP⟩ := hB
  have hx := S.1
  have hb := S.2.1
  have hown : s.vm.findClass RX6 = some m.cls := S.2.2.2.1
  have hts := S.2.2.2.2
  have hl : lv_has ls 1 [(0, .ref (t.2.1 (600 + (8 * 6 + n))))] := hl
  have hc1 := hV.c hn
  refine lv_iconst (v := 0) hx hb dX6_bears_0 (by decide) ?_
  refine lv_aload_n hx hb dX6_bears_1 rfl (lv_at hl 0 rfl) ?_
  refine lv_iconst (v := 4) hx hb dX6_bears_2 (by decide) ?_
  refine kk_Ri ((va_runU (As := [.int (nI 4)]) (rest := [.int (0)]) (C := RX12) (owner := "ThunderCasks$Cask") S (k6_X6_told l t r x n 4 hn (by decide)) (va_cwU 1 hts (lw_U q597 q1714 q1718 q545 q110 q546) rfl rfl rfl rfl (by decide +kernel) ⟨Nat.le_of_ble_eq_true rfl, Nat.le_of_ble_eq_true rfl⟩) ⟨c_blind, c_recv6 hK hP hn, c_pre hK hP⟩ rfl rfl hl.1 rfl (lv_room (Nat.le_of_ble_eq_true rfl)) dX6_bears_3 ⟨Nat.le_refl _, Nat.le_refl _⟩).run) ?_
  refine lv_iconst (v := 5) hx hb dX6_bears_6 (by decide) ?_
  refine lv_aload_n hx hb dX6_bears_7 rfl (lv_at hl 0 rfl) ?_
  refine co_get (v := .ref (t.2.1 0)) S hK.1 (ci := 12) (T := TX12) (N := 4) rfl in_X12 (hP.ob 6 n (by decide) hn) 1 (by decide) (hts _ q329) rfl rfl dX6_bears_8 ?_
  refine co_getN (v := .ref (t.2.1 100)) S hK.1 (ci := 0) (T := TX0) (N := 12) rfl in_X0 (hP 0 0 (by decide) (by decide)) 3 (by decide) (hK.f (w := ("ThunderCasks$Cask", 23, "ThunderCasks", "d", "LThunderCasks$World;", "ThunderCasks")) 21 rfl _) rfl rfl dX6_bears_11 ?_
  refine ck6_frost S hK hP dX6_bears_14 ?_
  refine lv_aload_n hx hb dX6_bears_17 rfl (lv_at hl 0 rfl) ?_
  refine lv_iconst (v := 1) hx hb dX6_bears_18 (by decide) ?_
  refine kk_Ri ((va_runU (As := [.int (nI 1)]) (rest := [.ref (t.2.1 101), .int (5), .int (r (16 + 7 * n + 4)), .int (0)]) (C := RX12) (owner := "ThunderCasks$Cask") S (k6_X6_told l t r x n 1 hn (by decide)) (va_cwU 1 hts (lw_U q597 q1714 q1718 q545 q110 q546) rfl rfl rfl rfl (by decide +kernel) ⟨Nat.le_of_ble_eq_true rfl, Nat.le_of_ble_eq_true rfl⟩) ⟨c_blind, c_recv6 hK hP hn, c_pre hK hP⟩ rfl rfl hl.1 rfl (lv_room (Nat.le_of_ble_eq_true rfl)) dX6_bears_19 ⟨Nat.le_refl _, Nat.le_refl _⟩).run) ?_
  refine ck_ldf S hK hP ((pC r n)) hc1.2 hc1.1 dX6_bears_22 ?_
  refine lv_imul hx hb dX6_bears_23 ?_
  refine lv_isub hx hb dX6_bears_24 ?_
  refine c6_max S (rm_ok (Nat.le_of_ble_eq_true rfl)) hl.1 (Nat.le_of_ble_eq_true rfl) dX6_bears_25 ?_
  exact kk_iretR S hr hlk rfl rfl (rfl) dX6_bears_28
set_option maxHeartbeats 4000000 in
set_option maxRecDepth 100000 in
theorem k6_X7_bears (l : Launch) (t : CT) (r : Rw) (x : Nat → Rw) (n : Nat) (b : Nat) (hn : n < 8) (hV : pV b r) : Met l yX7_bears (ws_ yX7_bears cX7_bears 1 (some .int)) (rmF 2) (va_Pc [.ref (t.2.1 (600 + (8 * 6 + n)))] (fun U => cK t U ∧ cX t r x U.heap)) (kR (some (.int (p_plain r n / 2)))) 0 0 (fun _ => False) := by
  refine kk_start (by decide) (Nat.le_of_ble_eq_true rfl) ?_
  intro p e s m below meth c S hr hlk hin hB ls hl
  obtain ⟨hK, hP⟩ := hB
  have hx := S.1
  have hb := S.2.1
  have hown : s.vm.findClass RX7 = some m.cls := S.2.2.2.1
  have hts := S.2.2.2.2
  have hl : lv_has ls 1 [(0, .ref (t.2.1 (600 + (8 * 6 + n))))] := hl
  refine lv_aload_n hx hb dX7_bears_0 rfl (lv_at hl 0 rfl) ?_
  refine lv_aload_n hx hb dX7_bears_1 rfl (lv_at hl 0 rfl) ?_
  refine kk_Ri ((va_runSU (As := []) (rest := [.ref (t.2.1 (600 + (8 * 6 + n)))]) (C := RX12) (hK.1.1 12 _ rfl).2 S (k6_X6_bears l t r x n b hn hV) (va_cwSU 0 hts (lw_SU q627 q623 q336 q621 q110 q638) rfl rfl rfl (by decide +kernel) ⟨Nat.le_of_ble_eq_true rfl, Nat.le_of_ble_eq_true rfl⟩) ⟨c_blind, c_recv6 hK hP hn, c_pre hK hP⟩ rfl rfl hl.1 rfl (lv_room (Nat.le_of_ble_eq_true rfl)) dX7_bears_2 ⟨Nat.le_refl _, Nat.le_refl _⟩).run) ?_
  refine kk_Ri (ch_run (As := [.int ((p_plain r n))]) (C := RX12) (x0 := ⟨"ThunderCasks$Crack", "half", "(I)I"⟩) (owner := "ThunderCasks$Thunders") (maxL := 2) S (kX14_half l (t.2.1 (600 + (8 * 6 + n))) ((p_plain r n))) (fun _ _ _ _ h => ⟨_, h.1⟩) rfl rfl (Nat.le_of_ble_eq_true rfl) (Nat.le_of_ble_eq_true rfl) q570 (hK.2.2.2.2.2.2.2.2.1).2.1 (hK.2.2.2.2.2.2.2.2.1).2.2 rfl ⟨by decide, by decide⟩ (hK.2.2.2.2.2.2.2.2.2.1 _ (List.mem_of_getElem? (i := 3) rfl)) (hts _ q568) (show (parseMethodDescriptor yX14_half.desc).map (fun d => d.parameters.length) = some 1 from by decide +kernel) ⟨kk_blindT, c_recv6 hK hP hn, fun U hU hW => ⟨rfl, trivial⟩⟩ rfl hl.1 rfl (lv_room (Nat.le_of_ble_eq_true rfl)) dX7_bears_5 ⟨Nat.le_refl _, Nat.le_refl _⟩) ?_
  exact kk_iretR S hr hlk rfl rfl (rfl) dX7_bears_8
section CC
variable {p : Program} {l : Launch} {e : Env} {R : Room} {s : State} {m : MethodId} {args : Array Value} {below : List Frame} {meth : Method} {c : Code} {H H0 : Heap} {locs : List Loc} {cells slots : Nat} {Q : State → Prop}
variable {cc : ByteArray} {pc nL : Nat} {ls : Array Slot} {rest : List Value} {t : CT} {r : Rw} {x : Nat → Rw}
theorem cv_kind (S : CallFix p m c cc nL s args lw_all RX0) (hK : cK t s) (hP : cX t r x H) (hR : kRm R 4 cells slots) (hsz : ls.size = nL) (k : Nat) (hk : k < 8) (b : Nat) (hV : pV b r) (hrest : (rest.map fun v => v.category).sum ≤ 8) (hdg : decode cc pc = .ok (.invokevirtual 180, 3)) (kk : W p l e R s m args below meth c H locs cells slots Q (F0 m (pc + 3) ls (.int (r (16 + 7 * k)) :: rest))) : W p l e R s m args below meth c H locs cells slots Q (F0 m pc ls (.ref (t.2.1 (600 + (8 * pK r k + k))) :: rest)) := by
  have hkk := (hV.k hk).2
  have hke := (hV.k hk).1
  revert kk
  rcases (show pK r k = 0 ∨ pK r k = 1 ∨ pK r k = 2 ∨ pK r k = 3 ∨ pK r k = 4 ∨ pK r k = 5 ∨ pK r k = 6 by omega) with e | e | e | e | e | e | e
  · intro kk
    rw [show r (16 + 7 * k) = 0 from hke.trans (by rw [e]; rfl)] at kk
    rw [e]
    exact kk_Ri ((va_runU (As := []) (rest := rest) (C := RX6) (owner := "ThunderCasks$Cask") S (k0_X6_kind l t r x k hk) (va_cwU 0 S.2.2.2.2 (lw_U q503 q506 q505 q504 q110 q531) rfl rfl rfl rfl (by decide +kernel) ⟨by have := hR.1; show 0 + 1 ≤ _; omega, by have := hR.2.1; show 8 + (1 + 11) + 38 * 0 ≤ R.locals; omega⟩) ⟨c_blind, c_recv0 hK hP hk, c_pre hK hP⟩ rfl rfl hsz rfl (lv_room hrest) hdg ⟨hR.2.2.1, hR.2.2.2⟩).run) kk
  · intro kk
    rw [show r (16 + 7 * k) = 1 from hke.trans (by rw [e]; rfl)] at kk
    rw [e]
    exact kk_Ri ((va_runU (As := []) (rest := rest) (C := RX7) (owner := "ThunderCasks$Cask") S (k1_X7_kind l t r x k hk) (va_cwO 0 S.2.2.2.2 (lw_O q503 q506 q504 q507 q508 q111 q509) rfl rfl rfl q531 (by decide +kernel) ⟨by have := hR.1; show 1 + 1 ≤ _; omega, by have := hR.2.1; show 8 + (1 + 11) + 38 * 1 ≤ R.locals; omega⟩) ⟨c_blind, c_recv1 hK hP hk, c_pre hK hP⟩ rfl rfl hsz rfl (lv_room hrest) hdg ⟨hR.2.2.1, hR.2.2.2⟩).run) kk
  · intro kk
    rw [show r (16 + 7 * k) = 2 from hke.trans (by rw [e]; rfl)] at kk
    rw [e]
    exact kk_Ri ((va_runU (As := []) (rest := rest) (C := RX8) (owner := "ThunderCasks$Cask") S (k2_X8_kind l t r x k hk) (va_cwO 0 S.2.2.2.2 (lw_O q503 q506 q504 q530 q518 q112 q519) rfl rfl rfl q531 (by decide +kernel) ⟨by have := hR.1; show 1 + 1 ≤ _; omega, by have := hR.2.1; show 8 + (1 + 11) + 38 * 1 ≤ R.locals; omega⟩) ⟨c_blind, c_recv2 hK hP hk, c_pre hK hP⟩ rfl rfl hsz rfl (lv_room hrest) hdg ⟨hR.2.2.1, hR.2.2.2⟩).run) kk
  · intro kk
    rw [show r (16 + 7 * k) = 3 from hke.trans (by rw [e]; rfl)] at kk
    rw [e]
    exact kk_Ri ((va_runU (As := []) (rest := rest) (C := RX9) (owner := "ThunderCasks$Cask") S (k3_X9_kind l t r x k hk) (va_cwO 0 S.2.2.2.2 (lw_O q503 q506 q504 q529 q515 q113 q516) rfl rfl rfl q531 (by decide +kernel) ⟨by have := hR.1; show 2 + 1 ≤ _; omega, by have := hR.2.1; show 8 + (1 + 11) + 38 * 2 ≤ R.locals; omega⟩) ⟨c_blind, c_recv3 hK hP hk, c_pre hK hP⟩ rfl rfl hsz rfl (lv_room hrest) hdg ⟨hR.2.2.1, hR.2.2.2⟩).run) kk
  · intro kk
    rw [show r (16 + 7 * k) = 4 from hke.trans (by rw [e]; rfl)] at kk
    rw [e]
    exact kk_Ri ((va_runU (As := []) (rest := rest) (C := RX10) (owner := "ThunderCasks$Cask") S (k4_X10_kind l t r x k hk) (va_cwO 0 S.2.2.2.2 (lw_O q503 q506 q504 q511 q512 q114 q513) rfl rfl rfl q531 (by decide +kernel) ⟨by have := hR.1; show 3 + 1 ≤ _; omega, by have := hR.2.1; show 8 + (1 + 11) + 38 * 3 ≤ R.locals; omega⟩) ⟨c_blind, c_recv4 hK hP hk, c_pre hK hP⟩ rfl rfl hsz rfl (lv_room hrest) hdg ⟨hR.2.2.1, hR.2.2.2⟩).run) kk
  · intro kk
    rw [show r (16 + 7 * k) = 5 from hke.trans (by rw [e]; rfl)] at kk
    rw [e]
    exact kk_Ri ((va_runU (As := []) (rest := rest) (C := RX11) (owner := "ThunderCasks$Cask") S (k5_X11_kind l t r x k hk) (va_cwO 0 S.2.2.2.2 (lw_O q503 q506 q504 q525 q526 q115 q527) rfl rfl rfl q531 (by decide +kernel) ⟨by have := hR.1; show 1 + 1 ≤ _; omega, by have := hR.2.1; show 8 + (1 + 11) + 38 * 1 ≤ R.locals; omega⟩) ⟨c_blind, c_recv5 hK hP hk, c_pre hK hP⟩ rfl rfl hsz rfl (lv_room hrest) hdg ⟨hR.2.2.1, hR.2.2.2⟩).run) kk
  · intro kk
    rw [show r (16 + 7 * k) = 6 from hke.trans (by rw [e]; rfl)] at kk
    rw [e]
    exact kk_Ri ((va_runU (As := []) (rest := rest) (C := RX12) (owner := "ThunderCasks$Cask") S (k6_X12_kind l t r x k hk) (va_cwO 0 S.2.2.2.2 (lw_O q503 q506 q504 q521 q522 q116 q523) rfl rfl rfl q531 (by decide +kernel) ⟨by have := hR.1; show 2 + 1 ≤ _; omega, by have := hR.2.1; show 8 + (1 + 11) + 38 * 2 ≤ R.locals; omega⟩) ⟨c_blind, c_recv6 hK hP hk, c_pre hK hP⟩ rfl rfl hsz rfl (lv_room hrest) hdg ⟨hR.2.2.1, hR.2.2.2⟩).run) kk
theorem cv_loud (S : CallFix p m c cc nL s args lw_all RX0) (hK : cK t s) (hP : cX t r x H) (hR : kRm R 5 cells slots) (hsz : ls.size = nL) (k : Nat) (hk : k < 8) (b : Nat) (hV : pV b r) (hrest : (rest.map fun v => v.category).sum ≤ 8) (hdg : decode cc pc = .ok (.invokevirtual 183, 3)) (kk : W p l e R s m args below meth c H locs cells slots Q (F0 m (pc + 3) ls (.int (p_loud r k) :: rest))) : W p l e R s m args below meth c H locs cells slots Q (F0 m pc ls (.ref (t.2.1 (600 + (8 * pK r k + k))) :: rest)) := by
  have hkk := (hV.k hk).2
  have hke := (hV.k hk).1
  revert kk
  rcases (show pK r k = 0 ∨ pK r k = 1 ∨ pK r k = 2 ∨ pK r k = 3 ∨ pK r k = 4 ∨ pK r k = 5 ∨ pK r k = 6 by omega) with e | e | e | e | e | e | e
  · intro kk
    rw [show p_loud r k = r (16 + 7 * k + 2) from by unfold p_loud; simp only [e]] at kk
    rw [e]
    exact kk_Ri ((va_runU (As := []) (rest := rest) (C := RX6) (owner := "ThunderCasks$Cask") S (k0_X6_loud l t r x k hk) (va_cwU 0 S.2.2.2.2 (lw_U q532 q535 q534 q533 q110 q596) rfl rfl rfl rfl (by decide +kernel) ⟨by have := hR.1; show 1 + 1 ≤ _; omega, by have := hR.2.1; show 8 + (1 + 11) + 38 * 1 ≤ R.locals; omega⟩) ⟨c_blind, c_recv0 hK hP hk, c_pre hK hP⟩ rfl rfl hsz rfl (lv_room hrest) hdg ⟨hR.2.2.1, hR.2.2.2⟩).run) kk
  · intro kk
    rw [show p_loud r k = p_crack r k from by unfold p_loud; simp only [e]] at kk
    rw [e]
    exact kk_Ri ((va_runU (As := []) (rest := rest) (C := RX7) (owner := "ThunderCasks$Cask") S (k1_X7_loud l t r x k hk) (va_cwO 0 S.2.2.2.2 (lw_O q532 q535 q533 q536 q537 q111 q538) rfl rfl rfl q596 (by decide +kernel) ⟨by have := hR.1; show 2 + 1 ≤ _; omega, by have := hR.2.1; show 8 + (1 + 11) + 38 * 2 ≤ R.locals; omega⟩) ⟨c_blind, c_recv1 hK hP hk, c_pre hK hP⟩ rfl rfl hsz rfl (lv_room hrest) hdg ⟨hR.2.2.1, hR.2.2.2⟩).run) kk
  · intro kk
    rw [show p_loud r k = p_roll r k from by unfold p_loud; simp only [e]] at kk
    rw [e]
    exact kk_Ri ((va_runU (As := []) (rest := rest) (C := RX8) (owner := "ThunderCasks$Cask") S (k2_X8_loud l t r x k hk) (va_cwO 0 S.2.2.2.2 (lw_O q532 q535 q533 q595 q557 q112 q558) rfl rfl rfl q596 (by decide +kernel) ⟨by have := hR.1; show 2 + 1 ≤ _; omega, by have := hR.2.1; show 8 + (2 + 11) + 38 * 2 ≤ R.locals; omega⟩) ⟨c_blind, c_recv2 hK hP hk, c_pre hK hP⟩ rfl rfl hsz rfl (lv_room hrest) hdg ⟨hR.2.2.1, hR.2.2.2⟩).run) kk
  · intro kk
    rw [show p_loud r k = p_roll r k / 2 from by unfold p_loud; simp only [e]] at kk
    rw [e]
    exact kk_Ri ((va_runU (As := []) (rest := rest) (C := RX9) (owner := "ThunderCasks$Cask") S (k3_X9_loud l t r x k hk) (va_cwO 0 S.2.2.2.2 (lw_O q532 q535 q533 q594 q554 q113 q555) rfl rfl rfl q596 (by decide +kernel) ⟨by have := hR.1; show 3 + 1 ≤ _; omega, by have := hR.2.1; show 8 + (1 + 11) + 38 * 3 ≤ R.locals; omega⟩) ⟨c_blind, c_recv3 hK hP hk, c_pre hK hP⟩ rfl rfl hsz rfl (lv_room hrest) hdg ⟨hR.2.2.1, hR.2.2.2⟩).run) kk
  · intro kk
    rw [show p_loud r k = p_roll r k / 2 + 5 * (nI (p_many (p_there r (r (16 + 7 * k + 1)))) - 1) from by unfold p_loud; simp only [e]] at kk
    rw [e]
    exact kk_Ri ((va_runU (As := []) (rest := rest) (C := RX10) (owner := "ThunderCasks$Cask") S (k4_X10_loud l t r x k b hk hV) (va_cwO 0 S.2.2.2.2 (lw_O q532 q535 q533 q550 q551 q114 q552) rfl rfl rfl q596 (by decide +kernel) ⟨by have := hR.1; show 4 + 1 ≤ _; omega, by have := hR.2.1; show 8 + (1 + 11) + 38 * 4 ≤ R.locals; omega⟩) ⟨c_blind, c_recv4 hK hP hk, c_pre hK hP⟩ rfl rfl hsz rfl (lv_room hrest) hdg ⟨hR.2.2.1, hR.2.2.2⟩).run) kk
  · intro kk
    rw [show p_loud r k = 0 from by unfold p_loud; simp only [e]] at kk
    rw [e]
    exact kk_Ri ((va_runU (As := []) (rest := rest) (C := RX11) (owner := "ThunderCasks$Cask") S (k5_X11_loud l t r x k hk) (va_cwO 0 S.2.2.2.2 (lw_O q532 q535 q533 q591 q592 q115 q593) rfl rfl rfl q596 (by decide +kernel) ⟨by have := hR.1; show 0 + 1 ≤ _; omega, by have := hR.2.1; show 8 + (1 + 11) + 38 * 0 ≤ R.locals; omega⟩) ⟨c_blind, c_recv5 hK hP hk, c_pre hK hP⟩ rfl rfl hsz rfl (lv_room hrest) hdg ⟨hR.2.2.1, hR.2.2.2⟩).run) kk
  · intro kk
    rw [show p_loud r k = if 10 ≤ r (16 + 7 * k + 5) then 0 else p_crack r k from by unfold p_loud; simp only [e]] at kk
    rw [e]
    exact kk_Ri ((va_runU (As := []) (rest := rest) (C := RX12) (owner := "ThunderCasks$Cask") S (k6_X12_loud l t r x k hk) (va_cwO 0 S.2.2.2.2 (lw_O q532 q535 q533 q584 q585 q116 q586) rfl rfl rfl q596 (by decide +kernel) ⟨by have := hR.1; show 3 + 1 ≤ _; omega, by have := hR.2.1; show 8 + (1 + 11) + 38 * 3 ≤ R.locals; omega⟩) ⟨c_blind, c_recv6 hK hP hk, c_pre hK hP⟩ rfl rfl hsz rfl (lv_room hrest) hdg ⟨hR.2.2.1, hR.2.2.2⟩).run) kk
theorem cv_leaks (S : CallFix p m c cc nL s args lw_all RX0) (hK : cK t s) (hP : cX t r x H) (hR : kRm R 3 cells slots) (hsz : ls.size = nL) (k : Nat) (hk : k < 8) (b : Nat) (hV : pV b r) (hrest : (rest.map fun v => v.category).sum ≤ 8) (hdg : decode cc pc = .ok (.invokevirtual 137, 3)) (kk : W p l e R s m args below meth c H locs cells slots Q (F0 m (pc + 3) ls (.int (p_leaks r k) :: rest))) : W p l e R s m args below meth c H locs cells slots Q (F0 m pc ls (.ref (t.2.1 (600 + (8 * pK r k + k))) :: rest)) := by
  have hkk := (hV.k hk).2
  have hke := (hV.k hk).1
  revert kk
  rcases (show pK r k = 0 ∨ pK r k = 1 ∨ pK r k = 2 ∨ pK r k = 3 ∨ pK r k = 4 ∨ pK r k = 5 ∨ pK r k = 6 by omega) with e | e | e | e | e | e | e
  · intro kk
    rw [show p_leaks r k = 1 from by unfold p_leaks; simp only [e]] at kk
    rw [e]
    exact kk_Ri ((va_runU (As := []) (rest := rest) (C := RX6) (owner := "ThunderCasks$Cask") S (k0_X6_leaks l t r x k hk) (va_cwU 0 S.2.2.2.2 (lw_U q598 q601 q600 q599 q110 q619) rfl rfl rfl rfl (by decide +kernel) ⟨by have := hR.1; show 0 + 1 ≤ _; omega, by have := hR.2.1; show 8 + (1 + 11) + 38 * 0 ≤ R.locals; omega⟩) ⟨c_blind, c_recv0 hK hP hk, c_pre hK hP⟩ rfl rfl hsz rfl (lv_room hrest) hdg ⟨hR.2.2.1, hR.2.2.2⟩).run) kk
  · intro kk
    rw [show p_leaks r k = 3 from by unfold p_leaks; simp only [e]] at kk
    rw [e]
    exact kk_Ri ((va_runU (As := []) (rest := rest) (C := RX7) (owner := "ThunderCasks$Cask") S (k1_X7_leaks l t r x k hk) (va_cwO 0 S.2.2.2.2 (lw_O q598 q601 q599 q602 q603 q111 q604) rfl rfl rfl q619 (by decide +kernel) ⟨by have := hR.1; show 1 + 1 ≤ _; omega, by have := hR.2.1; show 8 + (1 + 11) + 38 * 1 ≤ R.locals; omega⟩) ⟨c_blind, c_recv1 hK hP hk, c_pre hK hP⟩ rfl rfl hsz rfl (lv_room hrest) hdg ⟨hR.2.2.1, hR.2.2.2⟩).run) kk
  · intro kk
    rw [show p_leaks r k = 1 from by unfold p_leaks; simp only [e]] at kk
    rw [e]
    exact kk_Ri ((va_runU (As := []) (rest := rest) (C := RX8) (owner := "ThunderCasks$Cask") S (k2_X6_leaks l t r x k hk) (va_cwU 0 S.2.2.2.2 (lw_U q598 q601 q618 q599 q110 q619) rfl rfl rfl rfl (by decide +kernel) ⟨by have := hR.1; show 0 + 1 ≤ _; omega, by have := hR.2.1; show 8 + (1 + 11) + 38 * 0 ≤ R.locals; omega⟩) ⟨c_blind, c_recv2 hK hP hk, c_pre hK hP⟩ rfl rfl hsz rfl (lv_room hrest) hdg ⟨hR.2.2.1, hR.2.2.2⟩).run) kk
  · intro kk
    rw [show p_leaks r k = 0 from by unfold p_leaks; simp only [e]] at kk
    rw [e]
    exact kk_Ri ((va_runU (As := []) (rest := rest) (C := RX9) (owner := "ThunderCasks$Cask") S (k3_X9_leaks l t r x k hk) (va_cwO 0 S.2.2.2.2 (lw_O q598 q601 q599 q617 q607 q113 q608) rfl rfl rfl q619 (by decide +kernel) ⟨by have := hR.1; show 0 + 1 ≤ _; omega, by have := hR.2.1; show 8 + (1 + 11) + 38 * 0 ≤ R.locals; omega⟩) ⟨c_blind, c_recv3 hK hP hk, c_pre hK hP⟩ rfl rfl hsz rfl (lv_room hrest) hdg ⟨hR.2.2.1, hR.2.2.2⟩).run) kk
  · intro kk
    rw [show p_leaks r k = 0 from by unfold p_leaks; simp only [e]] at kk
    rw [e]
    exact kk_Ri ((va_runU (As := []) (rest := rest) (C := RX10) (owner := "ThunderCasks$Cask") S (k4_X9_leaks l t r x k hk) (va_cwO 0 S.2.2.2.2 (lw_O q598 q601 q599 q606 q607 q113 q608) rfl rfl rfl q619 (by decide +kernel) ⟨by have := hR.1; show 0 + 1 ≤ _; omega, by have := hR.2.1; show 8 + (1 + 11) + 38 * 0 ≤ R.locals; omega⟩) ⟨c_blind, c_recv4 hK hP hk, c_pre hK hP⟩ rfl rfl hsz rfl (lv_room hrest) hdg ⟨hR.2.2.1, hR.2.2.2⟩).run) kk
  · intro kk
    rw [show p_leaks r k = 5 from by unfold p_leaks; simp only [e]] at kk
    rw [e]
    exact kk_Ri ((va_runU (As := []) (rest := rest) (C := RX11) (owner := "ThunderCasks$Cask") S (k5_X11_leaks l t r x k hk) (va_cwO 0 S.2.2.2.2 (lw_O q598 q601 q599 q613 q614 q115 q615) rfl rfl rfl q619 (by decide +kernel) ⟨by have := hR.1; show 1 + 1 ≤ _; omega, by have := hR.2.1; show 8 + (1 + 11) + 38 * 1 ≤ R.locals; omega⟩) ⟨c_blind, c_recv5 hK hP hk, c_pre hK hP⟩ rfl rfl hsz rfl (lv_room hrest) hdg ⟨hR.2.2.1, hR.2.2.2⟩).run) kk
  · intro kk
    rw [show p_leaks r k = 5 from by unfold p_leaks; simp only [e]] at kk
    rw [e]
    exact kk_Ri ((va_runU (As := []) (rest := rest) (C := RX12) (owner := "ThunderCasks$Cask") S (k6_X12_leaks l t r x k hk) (va_cwO 0 S.2.2.2.2 (lw_O q598 q601 q599 q609 q610 q116 q611) rfl rfl rfl q619 (by decide +kernel) ⟨by have := hR.1; show 2 + 1 ≤ _; omega, by have := hR.2.1; show 8 + (1 + 11) + 38 * 2 ≤ R.locals; omega⟩) ⟨c_blind, c_recv6 hK hP hk, c_pre hK hP⟩ rfl rfl hsz rfl (lv_room hrest) hdg ⟨hR.2.2.1, hR.2.2.2⟩).run) kk
theorem cv_bears (S : CallFix p m c cc nL s args lw_all RX0) (hK : cK t s) (hP : cX t r x H) (hR : kRm R 3 cells slots) (hsz : ls.size = nL) (k : Nat) (hk : k < 8) (b : Nat) (hV : pV b r) (hrest : (rest.map fun v => v.category).sum ≤ 8) (hdg : decode cc pc = .ok (.invokevirtual 184, 3)) (kk : W p l e R s m args below meth c H locs cells slots Q (F0 m (pc + 3) ls (.int (p_bears r k) :: rest))) : W p l e R s m args below meth c H locs cells slots Q (F0 m pc ls (.ref (t.2.1 (600 + (8 * pK r k + k))) :: rest)) := by
  have hkk := (hV.k hk).2
  have hke := (hV.k hk).1
  revert kk
  rcases (show pK r k = 0 ∨ pK r k = 1 ∨ pK r k = 2 ∨ pK r k = 3 ∨ pK r k = 4 ∨ pK r k = 5 ∨ pK r k = 6 by omega) with e | e | e | e | e | e | e
  · intro kk
    rw [show p_bears r k = p_plain r k from by unfold p_bears; simp only [e]] at kk
    rw [e]
    exact kk_Ri ((va_runU (As := []) (rest := rest) (C := RX6) (owner := "ThunderCasks$Cask") S (k0_X6_bears l t r x k b hk hV) (va_cwU 0 S.2.2.2.2 (lw_U q620 q623 q622 q621 q110 q638) rfl rfl rfl rfl (by decide +kernel) ⟨by have := hR.1; show 1 + 1 ≤ _; omega, by have := hR.2.1; show 8 + (1 + 11) + 38 * 1 ≤ R.locals; omega⟩) ⟨c_blind, c_recv0 hK hP hk, c_pre hK hP⟩ rfl rfl hsz rfl (lv_room hrest) hdg ⟨hR.2.2.1, hR.2.2.2⟩).run) kk
  · intro kk
    rw [show p_bears r k = p_plain r k / 2 from by unfold p_bears; simp only [e]] at kk
    rw [e]
    exact kk_Ri ((va_runU (As := []) (rest := rest) (C := RX7) (owner := "ThunderCasks$Cask") S (k1_X7_bears l t r x k b hk hV) (va_cwO 0 S.2.2.2.2 (lw_O q620 q623 q621 q624 q625 q111 q626) rfl rfl rfl q638 (by decide +kernel) ⟨by have := hR.1; show 2 + 1 ≤ _; omega, by have := hR.2.1; show 8 + (1 + 11) + 38 * 2 ≤ R.locals; omega⟩) ⟨c_blind, c_recv1 hK hP hk, c_pre hK hP⟩ rfl rfl hsz rfl (lv_room hrest) hdg ⟨hR.2.2.1, hR.2.2.2⟩).run) kk
  · intro kk
    rw [show p_bears r k = p_plain r k + 10 from by unfold p_bears; simp only [e]] at kk
    rw [e]
    exact kk_Ri ((va_runU (As := []) (rest := rest) (C := RX8) (owner := "ThunderCasks$Cask") S (k2_X8_bears l t r x k b hk hV) (va_cwO 0 S.2.2.2.2 (lw_O q620 q623 q621 q637 q631 q112 q632) rfl rfl rfl q638 (by decide +kernel) ⟨by have := hR.1; show 2 + 1 ≤ _; omega, by have := hR.2.1; show 8 + (1 + 11) + 38 * 2 ≤ R.locals; omega⟩) ⟨c_blind, c_recv2 hK hP hk, c_pre hK hP⟩ rfl rfl hsz rfl (lv_room hrest) hdg ⟨hR.2.2.1, hR.2.2.2⟩).run) kk
  · intro kk
    rw [show p_bears r k = p_plain r k + 10 from by unfold p_bears; simp only [e]] at kk
    rw [e]
    exact kk_Ri ((va_runU (As := []) (rest := rest) (C := RX9) (owner := "ThunderCasks$Cask") S (k3_X8_bears l t r x k b hk hV) (va_cwO 0 S.2.2.2.2 (lw_O q620 q623 q621 q636 q631 q112 q632) rfl rfl rfl q638 (by decide +kernel) ⟨by have := hR.1; show 2 + 1 ≤ _; omega, by have := hR.2.1; show 8 + (1 + 11) + 38 * 2 ≤ R.locals; omega⟩) ⟨c_blind, c_recv3 hK hP hk, c_pre hK hP⟩ rfl rfl hsz rfl (lv_room hrest) hdg ⟨hR.2.2.1, hR.2.2.2⟩).run) kk
  · intro kk
    rw [show p_bears r k = p_plain r k + 10 from by unfold p_bears; simp only [e]] at kk
    rw [e]
    exact kk_Ri ((va_runU (As := []) (rest := rest) (C := RX10) (owner := "ThunderCasks$Cask") S (k4_X8_bears l t r x k b hk hV) (va_cwO 0 S.2.2.2.2 (lw_O q620 q623 q621 q630 q631 q112 q632) rfl rfl rfl q638 (by decide +kernel) ⟨by have := hR.1; show 2 + 1 ≤ _; omega, by have := hR.2.1; show 8 + (1 + 11) + 38 * 2 ≤ R.locals; omega⟩) ⟨c_blind, c_recv4 hK hP hk, c_pre hK hP⟩ rfl rfl hsz rfl (lv_room hrest) hdg ⟨hR.2.2.1, hR.2.2.2⟩).run) kk
  · intro kk
    rw [show p_bears r k = p_plain r k from by unfold p_bears; simp only [e]] at kk
    rw [e]
    exact kk_Ri ((va_runU (As := []) (rest := rest) (C := RX11) (owner := "ThunderCasks$Cask") S (k5_X6_bears l t r x k b hk hV) (va_cwU 0 S.2.2.2.2 (lw_U q620 q623 q635 q621 q110 q638) rfl rfl rfl rfl (by decide +kernel) ⟨by have := hR.1; show 1 + 1 ≤ _; omega, by have := hR.2.1; show 8 + (1 + 11) + 38 * 1 ≤ R.locals; omega⟩) ⟨c_blind, c_recv5 hK hP hk, c_pre hK hP⟩ rfl rfl hsz rfl (lv_room hrest) hdg ⟨hR.2.2.1, hR.2.2.2⟩).run) kk
  · intro kk
    rw [show p_bears r k = p_plain r k / 2 from by unfold p_bears; simp only [e]] at kk
    rw [e]
    exact kk_Ri ((va_runU (As := []) (rest := rest) (C := RX12) (owner := "ThunderCasks$Cask") S (k6_X7_bears l t r x k b hk hV) (va_cwO 0 S.2.2.2.2 (lw_O q620 q623 q621 q634 q625 q111 q626) rfl rfl rfl q638 (by decide +kernel) ⟨by have := hR.1; show 2 + 1 ≤ _; omega, by have := hR.2.1; show 8 + (1 + 11) + 38 * 2 ≤ R.locals; omega⟩) ⟨c_blind, c_recv6 hK hP hk, c_pre hK hP⟩ rfl rfl hsz rfl (lv_room hrest) hdg ⟨hR.2.2.1, hR.2.2.2⟩).run) kk
theorem under_0 (v : Int32) : p_under (nI 0) v ↔ (v = 0 ∨ v = 0) := by
  unfold p_under
  have e : nI 0 = 0 := rfl
  rw [e]
  grind
theorem under_1 (v : Int32) : p_under (nI 1) v ↔ (v = 1 ∨ (v = 0 ∨ v = 1)) := by
  unfold p_under
  have e : nI 1 = 1 := rfl
  rw [e]
  grind
theorem under_2 (v : Int32) : p_under (nI 2) v ↔ (v = 2 ∨ (v = 0 ∨ v = 2)) := by
  unfold p_under
  have e : nI 2 = 2 := rfl
  rw [e]
  grind
theorem under_3 (v : Int32) : p_under (nI 3) v ↔ (v = 3 ∨ (v = 2 ∨ (v = 0 ∨ v = 3))) := by
  unfold p_under
  have e : nI 3 = 3 := rfl
  rw [e]
  grind
theorem under_4 (v : Int32) : p_under (nI 4) v ↔ (v = 3 ∨ (v = 2 ∨ (v = 0 ∨ v = 4))) := by
  unfold p_under
  have e : nI 4 = 4 := rfl
  rw [e]
  grind
theorem under_5 (v : Int32) : p_under (nI 5) v ↔ (v = 0 ∨ v = 5) := by
  unfold p_under
  have e : nI 5 = 5 := rfl
  rw [e]
  grind
theorem under_6 (v : Int32) : p_under (nI 6) v ↔ (v = 1 ∨ (v = 0 ∨ v = 6)) := by
  unfold p_under
  have e : nI 6 = 6 := rfl
  rw [e]
  grind
theorem cv_isUnder (S : CallFix p m c cc nL s args lw_all RX0) (hK : cK t s) (hP : cX t r x H) (hR : kRm R 7 cells slots) (hsz : ls.size = nL) (k : Nat) (hk : k < 8) (b : Nat) (hV : pV b r) {v : Int32} (hrest : (rest.map fun v => v.category).sum ≤ 8) (hdg : decode cc pc = .ok (.invokevirtual 364, 3)) (kk : W p l e R s m args below meth c H locs cells slots Q (F0 m (pc + 3) ls (.int (b2i (p_under (r (16 + 7 * k)) v)) :: rest))) : W p l e R s m args below meth c H locs cells slots Q (F0 m pc ls (.int v :: .ref (t.2.1 (600 + (8 * pK r k + k))) :: rest)) := by
  have hkk := (hV.k hk).2
  have hke := (hV.k hk).1
  revert kk
  rcases (show pK r k = 0 ∨ pK r k = 1 ∨ pK r k = 2 ∨ pK r k = 3 ∨ pK r k = 4 ∨ pK r k = 5 ∨ pK r k = 6 by omega) with e | e | e | e | e | e | e
  · intro kk
    rw [show b2i (p_under (r (16 + 7 * k)) v) = b2i (v = 0 ∨ v = 0) from b2i_iff (by rw [hke, e]; exact under_0 v)] at kk
    rw [e]
    exact kk_Ri ((va_runU (As := [.int v]) (rest := rest) (C := RX6) (owner := "ThunderCasks$Cask") S (k0_X6_isUnder l t r x k v hk) (va_cwU 1 S.2.2.2.2 (lw_U q1146 q1149 q1148 q1147 q110 q1165) rfl rfl rfl rfl (by decide +kernel) ⟨by have := hR.1; show 1 + 1 ≤ _; omega, by have := hR.2.1; show 8 + (2 + 11) + 38 * 1 ≤ R.locals; omega⟩) ⟨c_blind, c_recv0 hK hP hk, c_pre hK hP⟩ rfl rfl hsz rfl (lv_room hrest) hdg ⟨hR.2.2.1, hR.2.2.2⟩).run) kk
  · intro kk
    rw [show b2i (p_under (r (16 + 7 * k)) v) = b2i (v = 1 ∨ (v = 0 ∨ v = 1)) from b2i_iff (by rw [hke, e]; exact under_1 v)] at kk
    rw [e]
    exact kk_Ri ((va_runU (As := [.int v]) (rest := rest) (C := RX7) (owner := "ThunderCasks$Cask") S (k1_X7_isUnder l t r x k v hk) (va_cwO 1 S.2.2.2.2 (lw_O q1146 q1149 q1147 q1150 q1151 q111 q1152) rfl rfl rfl q1165 (by decide +kernel) ⟨by have := hR.1; show 3 + 1 ≤ _; omega, by have := hR.2.1; show 8 + (2 + 11) + 38 * 3 ≤ R.locals; omega⟩) ⟨c_blind, c_recv1 hK hP hk, c_pre hK hP⟩ rfl rfl hsz rfl (lv_room hrest) hdg ⟨hR.2.2.1, hR.2.2.2⟩).run) kk
  · intro kk
    rw [show b2i (p_under (r (16 + 7 * k)) v) = b2i (v = 2 ∨ (v = 0 ∨ v = 2)) from b2i_iff (by rw [hke, e]; exact under_2 v)] at kk
    rw [e]
    exact kk_Ri ((va_runU (As := [.int v]) (rest := rest) (C := RX8) (owner := "ThunderCasks$Cask") S (k2_X8_isUnder l t r x k v hk) (va_cwO 1 S.2.2.2.2 (lw_O q1146 q1149 q1147 q1164 q1158 q112 q1159) rfl rfl rfl q1165 (by decide +kernel) ⟨by have := hR.1; show 3 + 1 ≤ _; omega, by have := hR.2.1; show 8 + (2 + 11) + 38 * 3 ≤ R.locals; omega⟩) ⟨c_blind, c_recv2 hK hP hk, c_pre hK hP⟩ rfl rfl hsz rfl (lv_room hrest) hdg ⟨hR.2.2.1, hR.2.2.2⟩).run) kk
  · intro kk
    rw [show b2i (p_under (r (16 + 7 * k)) v) = b2i (v = 3 ∨ (v = 2 ∨ (v = 0 ∨ v = 3))) from b2i_iff (by rw [hke, e]; exact under_3 v)] at kk
    rw [e]
    exact kk_Ri ((va_runU (As := [.int v]) (rest := rest) (C := RX9) (owner := "ThunderCasks$Cask") S (k3_X9_isUnder l t r x k v hk) (va_cwO 1 S.2.2.2.2 (lw_O q1146 q1149 q1147 q1163 q1155 q113 q1156) rfl rfl rfl q1165 (by decide +kernel) ⟨by have := hR.1; show 5 + 1 ≤ _; omega, by have := hR.2.1; show 8 + (2 + 11) + 38 * 5 ≤ R.locals; omega⟩) ⟨c_blind, c_recv3 hK hP hk, c_pre hK hP⟩ rfl rfl hsz rfl (lv_room hrest) hdg ⟨hR.2.2.1, hR.2.2.2⟩).run) kk
  · intro kk
    rw [show b2i (p_under (r (16 + 7 * k)) v) = b2i (v = 3 ∨ (v = 2 ∨ (v = 0 ∨ v = 4))) from b2i_iff (by rw [hke, e]; exact under_4 v)] at kk
    rw [e]
    exact kk_Ri ((va_runU (As := [.int v]) (rest := rest) (C := RX10) (owner := "ThunderCasks$Cask") S (k4_X9_isUnder l t r x k v hk) (va_cwO 1 S.2.2.2.2 (lw_O q1146 q1149 q1147 q1154 q1155 q113 q1156) rfl rfl rfl q1165 (by decide +kernel) ⟨by have := hR.1; show 6 + 1 ≤ _; omega, by have := hR.2.1; show 8 + (2 + 11) + 38 * 6 ≤ R.locals; omega⟩) ⟨c_blind, c_recv4 hK hP hk, c_pre hK hP⟩ rfl rfl hsz rfl (lv_room hrest) hdg ⟨hR.2.2.1, hR.2.2.2⟩).run) kk
  · intro kk
    rw [show b2i (p_under (r (16 + 7 * k)) v) = b2i (v = 0 ∨ v = 5) from b2i_iff (by rw [hke, e]; exact under_5 v)] at kk
    rw [e]
    exact kk_Ri ((va_runU (As := [.int v]) (rest := rest) (C := RX11) (owner := "ThunderCasks$Cask") S (k5_X6_isUnder l t r x k v hk) (va_cwU 1 S.2.2.2.2 (lw_U q1146 q1149 q1162 q1147 q110 q1165) rfl rfl rfl rfl (by decide +kernel) ⟨by have := hR.1; show 2 + 1 ≤ _; omega, by have := hR.2.1; show 8 + (2 + 11) + 38 * 2 ≤ R.locals; omega⟩) ⟨c_blind, c_recv5 hK hP hk, c_pre hK hP⟩ rfl rfl hsz rfl (lv_room hrest) hdg ⟨hR.2.2.1, hR.2.2.2⟩).run) kk
  · intro kk
    rw [show b2i (p_under (r (16 + 7 * k)) v) = b2i (v = 1 ∨ (v = 0 ∨ v = 6)) from b2i_iff (by rw [hke, e]; exact under_6 v)] at kk
    rw [e]
    exact kk_Ri ((va_runU (As := [.int v]) (rest := rest) (C := RX12) (owner := "ThunderCasks$Cask") S (k6_X7_isUnder l t r x k v hk) (va_cwO 1 S.2.2.2.2 (lw_O q1146 q1149 q1147 q1161 q1151 q111 q1152) rfl rfl rfl q1165 (by decide +kernel) ⟨by have := hR.1; show 4 + 1 ≤ _; omega, by have := hR.2.1; show 8 + (2 + 11) + 38 * 4 ≤ R.locals; omega⟩) ⟨c_blind, c_recv6 hK hP hk, c_pre hK hP⟩ rfl rfl hsz rfl (lv_room hrest) hdg ⟨hR.2.2.1, hR.2.2.2⟩).run) kk
theorem kk_R5i {st0 : List Value} {a : Array Value} {v : Int32} (hr : va_Run5 p l e R s m args below meth c H locs cells slots 0 0 (F0 m pc ls st0) rest (kR (some (.int v)) a) (fun _ => False)) (kk : W p l e R s m args below meth c H locs cells slots Q (F0 m (pc + 5) ls (.int v :: rest))) : W p l e R s m args below meth c H locs cells slots Q (F0 m pc ls st0) := by
  intro T hT X
  obtain ⟨v, st₀, t, T', L, h0, X', hL, e1, -, ⟨hv, hh⟩, st⟩ := hr T hT X
  cases hv
  obtain ⟨t2, a1, b1⟩ := kk T' (by rw [e1, hh, h0]) (Stand.forget X' (fun q h => (hL q h).elim))
  exact ⟨t2, st t2 a1, b1⟩
theorem ci_loud (S : CallFix p m c cc nL s args lw_all RX0) (hK : cK t s) (hP : cX t r x H) (hR : kRm R 5 cells slots) (hsz : ls.size = nL) (k : Nat) (hk : k < 8) (b : Nat) (hV : pV b r) (hrest : (rest.map fun v => v.category).sum ≤ 8) (hdg : decode cc pc = .ok (.invokeinterface 122 1, 5)) (kk : W p l e R s m args below meth c H locs cells slots Q (F0 m (pc + 5) ls (.int (p_loud r k) :: rest))) : W p l e R s m args below meth c H locs cells slots Q (F0 m pc ls (.ref (t.2.1 (600 + (8 * pK r k + k))) :: rest)) := by
  have hkk := (hV.k hk).2
  have hke := (hV.k hk).1
  revert kk
  rcases (show pK r k = 0 ∨ pK r k = 1 ∨ pK r k = 2 ∨ pK r k = 3 ∨ pK r k = 4 ∨ pK r k = 5 ∨ pK r k = 6 by omega) with e | e | e | e | e | e | e
  · intro kk
    rw [show p_loud r k = r (16 + 7 * k + 2) from by unfold p_loud; simp only [e]] at kk
    rw [e]
    exact kk_R5i (va_runF (As := []) (rest := rest) (C := RX6) (x := ⟨"ThunderCasks$Thunders", "loud", "()I"⟩) (hK.1.1 6 _ rfl).2 S (k0_X6_loud l t r x k hk) (va_cwF 0 S.2.2.2.2 (lw_F q656 q660 q533 q110 q596) rfl rfl rfl (hK.i (w := ("ThunderCasks$Cask", ⟨"ThunderCasks$Thunders", "loud", "()I"⟩, ⟨"ThunderCasks$Cask", "loud", "()I"⟩)) 0 rfl) (by decide +kernel) ⟨by have := hR.1; show 1 + 1 ≤ _; omega, by have := hR.2.1; show 8 + (1 + 11) + 38 * 1 ≤ R.locals; omega⟩) ⟨c_blind, c_recv0 hK hP hk, c_pre hK hP⟩ rfl rfl hsz rfl (lv_room hrest) hdg ⟨hR.2.2.1, hR.2.2.2⟩) kk
  · intro kk
    rw [show p_loud r k = p_crack r k from by unfold p_loud; simp only [e]] at kk
    rw [e]
    exact kk_R5i (va_runF (As := []) (rest := rest) (C := RX7) (x := ⟨"ThunderCasks$Thunders", "loud", "()I"⟩) (hK.1.1 7 _ rfl).2 S (k1_X7_loud l t r x k hk) (va_cwF 0 S.2.2.2.2 (lw_F q656 q664 q537 q111 q538) rfl rfl rfl (hK.i (w := ("ThunderCasks$Crack", ⟨"ThunderCasks$Thunders", "loud", "()I"⟩, ⟨"ThunderCasks$Crack", "loud", "()I"⟩)) 1 rfl) (by decide +kernel) ⟨by have := hR.1; show 2 + 1 ≤ _; omega, by have := hR.2.1; show 8 + (1 + 11) + 38 * 2 ≤ R.locals; omega⟩) ⟨c_blind, c_recv1 hK hP hk, c_pre hK hP⟩ rfl rfl hsz rfl (lv_room hrest) hdg ⟨hR.2.2.1, hR.2.2.2⟩) kk
  · intro kk
    rw [show p_loud r k = p_roll r k from by unfold p_loud; simp only [e]] at kk
    rw [e]
    exact kk_R5i (va_runF (As := []) (rest := rest) (C := RX8) (x := ⟨"ThunderCasks$Thunders", "loud", "()I"⟩) (hK.1.1 8 _ rfl).2 S (k2_X8_loud l t r x k hk) (va_cwF 0 S.2.2.2.2 (lw_F q656 q684 q557 q112 q558) rfl rfl rfl (hK.i (w := ("ThunderCasks$Roll", ⟨"ThunderCasks$Thunders", "loud", "()I"⟩, ⟨"ThunderCasks$Roll", "loud", "()I"⟩)) 6 rfl) (by decide +kernel) ⟨by have := hR.1; show 2 + 1 ≤ _; omega, by have := hR.2.1; show 8 + (2 + 11) + 38 * 2 ≤ R.locals; omega⟩) ⟨c_blind, c_recv2 hK hP hk, c_pre hK hP⟩ rfl rfl hsz rfl (lv_room hrest) hdg ⟨hR.2.2.1, hR.2.2.2⟩) kk
  · intro kk
    rw [show p_loud r k = p_roll r k / 2 from by unfold p_loud; simp only [e]] at kk
    rw [e]
    exact kk_R5i (va_runF (As := []) (rest := rest) (C := RX9) (x := ⟨"ThunderCasks$Thunders", "loud", "()I"⟩) (hK.1.1 9 _ rfl).2 S (k3_X9_loud l t r x k hk) (va_cwF 0 S.2.2.2.2 (lw_F q656 q680 q554 q113 q555) rfl rfl rfl (hK.i (w := ("ThunderCasks$Mellow", ⟨"ThunderCasks$Thunders", "loud", "()I"⟩, ⟨"ThunderCasks$Mellow", "loud", "()I"⟩)) 5 rfl) (by decide +kernel) ⟨by have := hR.1; show 3 + 1 ≤ _; omega, by have := hR.2.1; show 8 + (1 + 11) + 38 * 3 ≤ R.locals; omega⟩) ⟨c_blind, c_recv3 hK hP hk, c_pre hK hP⟩ rfl rfl hsz rfl (lv_room hrest) hdg ⟨hR.2.2.1, hR.2.2.2⟩) kk
  · intro kk
    rw [show p_loud r k = p_roll r k / 2 + 5 * (nI (p_many (p_there r (r (16 + 7 * k + 1)))) - 1) from by unfold p_loud; simp only [e]] at kk
    rw [e]
    exact kk_R5i (va_runF (As := []) (rest := rest) (C := RX10) (x := ⟨"ThunderCasks$Thunders", "loud", "()I"⟩) (hK.1.1 10 _ rfl).2 S (k4_X10_loud l t r x k b hk hV) (va_cwF 0 S.2.2.2.2 (lw_F q656 q668 q551 q114 q552) rfl rfl rfl (hK.i (w := ("ThunderCasks$Echo", ⟨"ThunderCasks$Thunders", "loud", "()I"⟩, ⟨"ThunderCasks$Echo", "loud", "()I"⟩)) 2 rfl) (by decide +kernel) ⟨by have := hR.1; show 4 + 1 ≤ _; omega, by have := hR.2.1; show 8 + (1 + 11) + 38 * 4 ≤ R.locals; omega⟩) ⟨c_blind, c_recv4 hK hP hk, c_pre hK hP⟩ rfl rfl hsz rfl (lv_room hrest) hdg ⟨hR.2.2.1, hR.2.2.2⟩) kk
  · intro kk
    rw [show p_loud r k = 0 from by unfold p_loud; simp only [e]] at kk
    rw [e]
    exact kk_R5i (va_runF (As := []) (rest := rest) (C := RX11) (x := ⟨"ThunderCasks$Thunders", "loud", "()I"⟩) (hK.1.1 11 _ rfl).2 S (k5_X11_loud l t r x k hk) (va_cwF 0 S.2.2.2.2 (lw_F q656 q676 q592 q115 q593) rfl rfl rfl (hK.i (w := ("ThunderCasks$Heat", ⟨"ThunderCasks$Thunders", "loud", "()I"⟩, ⟨"ThunderCasks$Heat", "loud", "()I"⟩)) 4 rfl) (by decide +kernel) ⟨by have := hR.1; show 0 + 1 ≤ _; omega, by have := hR.2.1; show 8 + (1 + 11) + 38 * 0 ≤ R.locals; omega⟩) ⟨c_blind, c_recv5 hK hP hk, c_pre hK hP⟩ rfl rfl hsz rfl (lv_room hrest) hdg ⟨hR.2.2.1, hR.2.2.2⟩) kk
  · intro kk
    rw [show p_loud r k = if 10 ≤ r (16 + 7 * k + 5) then 0 else p_crack r k from by unfold p_loud; simp only [e]] at kk
    rw [e]
    exact kk_R5i (va_runF (As := []) (rest := rest) (C := RX12) (x := ⟨"ThunderCasks$Thunders", "loud", "()I"⟩) (hK.1.1 12 _ rfl).2 S (k6_X12_loud l t r x k hk) (va_cwF 0 S.2.2.2.2 (lw_F q656 q672 q585 q116 q586) rfl rfl rfl (hK.i (w := ("ThunderCasks$Forged", ⟨"ThunderCasks$Thunders", "loud", "()I"⟩, ⟨"ThunderCasks$Forged", "loud", "()I"⟩)) 3 rfl) (by decide +kernel) ⟨by have := hR.1; show 3 + 1 ≤ _; omega, by have := hR.2.1; show 8 + (1 + 11) + 38 * 3 ≤ R.locals; omega⟩) ⟨c_blind, c_recv6 hK hP hk, c_pre hK hP⟩ rfl rfl hsz rfl (lv_room hrest) hdg ⟨hR.2.2.1, hR.2.2.2⟩) kk
theorem ci_bears (S : CallFix p m c cc nL s args lw_all RX0) (hK : cK t s) (hP : cX t r x H) (hR : kRm R 3 cells slots) (hsz : ls.size = nL) (k : Nat) (hk : k < 8) (b : Nat) (hV : pV b r) (hrest : (rest.map fun v => v.category).sum ≤ 8) (hdg : decode cc pc = .ok (.invokeinterface 128 1, 5)) (kk : W p l e R s m args below meth c H locs cells slots Q (F0 m (pc + 5) ls (.int (p_bears r k) :: rest))) : W p l e R s m args below meth c H locs cells slots Q (F0 m pc ls (.ref (t.2.1 (600 + (8 * pK r k + k))) :: rest)) := by
  have hkk := (hV.k hk).2
  have hke := (hV.k hk).1
  revert kk
  rcases (show pK r k = 0 ∨ pK r k = 1 ∨ pK r k = 2 ∨ pK r k = 3 ∨ pK r k = 4 ∨ pK r k = 5 ∨ pK r k = 6 by omega) with e | e | e | e | e | e | e
  · intro kk
    rw [show p_bears r k = p_plain r k from by unfold p_bears; simp only [e]] at kk
    rw [e]
    exact kk_R5i (va_runF (As := []) (rest := rest) (C := RX6) (x := ⟨"ThunderCasks$Thunders", "bears", "()I"⟩) (hK.1.1 6 _ rfl).2 S (k0_X6_bears l t r x k b hk hV) (va_cwF 0 S.2.2.2.2 (lw_F q746 q749 q621 q110 q638) rfl rfl rfl (hK.i (w := ("ThunderCasks$Cask", ⟨"ThunderCasks$Thunders", "bears", "()I"⟩, ⟨"ThunderCasks$Cask", "bears", "()I"⟩)) 7 rfl) (by decide +kernel) ⟨by have := hR.1; show 1 + 1 ≤ _; omega, by have := hR.2.1; show 8 + (1 + 11) + 38 * 1 ≤ R.locals; omega⟩) ⟨c_blind, c_recv0 hK hP hk, c_pre hK hP⟩ rfl rfl hsz rfl (lv_room hrest) hdg ⟨hR.2.2.1, hR.2.2.2⟩) kk
  · intro kk
    rw [show p_bears r k = p_plain r k / 2 from by unfold p_bears; simp only [e]] at kk
    rw [e]
    exact kk_R5i (va_runF (As := []) (rest := rest) (C := RX7) (x := ⟨"ThunderCasks$Thunders", "bears", "()I"⟩) (hK.1.1 7 _ rfl).2 S (k1_X7_bears l t r x k b hk hV) (va_cwF 0 S.2.2.2.2 (lw_F q746 q752 q625 q111 q626) rfl rfl rfl (hK.i (w := ("ThunderCasks$Crack", ⟨"ThunderCasks$Thunders", "bears", "()I"⟩, ⟨"ThunderCasks$Crack", "bears", "()I"⟩)) 8 rfl) (by decide +kernel) ⟨by have := hR.1; show 2 + 1 ≤ _; omega, by have := hR.2.1; show 8 + (1 + 11) + 38 * 2 ≤ R.locals; omega⟩) ⟨c_blind, c_recv1 hK hP hk, c_pre hK hP⟩ rfl rfl hsz rfl (lv_room hrest) hdg ⟨hR.2.2.1, hR.2.2.2⟩) kk
  · intro kk
    rw [show p_bears r k = p_plain r k + 10 from by unfold p_bears; simp only [e]] at kk
    rw [e]
    exact kk_R5i (va_runF (As := []) (rest := rest) (C := RX8) (x := ⟨"ThunderCasks$Thunders", "bears", "()I"⟩) (hK.1.1 8 _ rfl).2 S (k2_X8_bears l t r x k b hk hV) (va_cwF 0 S.2.2.2.2 (lw_F q746 q764 q631 q112 q632) rfl rfl rfl (hK.i (w := ("ThunderCasks$Roll", ⟨"ThunderCasks$Thunders", "bears", "()I"⟩, ⟨"ThunderCasks$Roll", "bears", "()I"⟩)) 13 rfl) (by decide +kernel) ⟨by have := hR.1; show 2 + 1 ≤ _; omega, by have := hR.2.1; show 8 + (1 + 11) + 38 * 2 ≤ R.locals; omega⟩) ⟨c_blind, c_recv2 hK hP hk, c_pre hK hP⟩ rfl rfl hsz rfl (lv_room hrest) hdg ⟨hR.2.2.1, hR.2.2.2⟩) kk
  · intro kk
    rw [show p_bears r k = p_plain r k + 10 from by unfold p_bears; simp only [e]] at kk
    rw [e]
    exact kk_R5i (va_runF (As := []) (rest := rest) (C := RX9) (x := ⟨"ThunderCasks$Thunders", "bears", "()I"⟩) (hK.1.1 9 _ rfl).2 S (k3_X8_bears l t r x k b hk hV) (va_cwF 0 S.2.2.2.2 (lw_F q746 q762 q631 q112 q632) rfl rfl rfl (hK.i (w := ("ThunderCasks$Mellow", ⟨"ThunderCasks$Thunders", "bears", "()I"⟩, ⟨"ThunderCasks$Roll", "bears", "()I"⟩)) 12 rfl) (by decide +kernel) ⟨by have := hR.1; show 2 + 1 ≤ _; omega, by have := hR.2.1; show 8 + (1 + 11) + 38 * 2 ≤ R.locals; omega⟩) ⟨c_blind, c_recv3 hK hP hk, c_pre hK hP⟩ rfl rfl hsz rfl (lv_room hrest) hdg ⟨hR.2.2.1, hR.2.2.2⟩) kk
  · intro kk
    rw [show p_bears r k = p_plain r k + 10 from by unfold p_bears; simp only [e]] at kk
    rw [e]
    exact kk_R5i (va_runF (As := []) (rest := rest) (C := RX10) (x := ⟨"ThunderCasks$Thunders", "bears", "()I"⟩) (hK.1.1 10 _ rfl).2 S (k4_X8_bears l t r x k b hk hV) (va_cwF 0 S.2.2.2.2 (lw_F q746 q755 q631 q112 q632) rfl rfl rfl (hK.i (w := ("ThunderCasks$Echo", ⟨"ThunderCasks$Thunders", "bears", "()I"⟩, ⟨"ThunderCasks$Roll", "bears", "()I"⟩)) 9 rfl) (by decide +kernel) ⟨by have := hR.1; show 2 + 1 ≤ _; omega, by have := hR.2.1; show 8 + (1 + 11) + 38 * 2 ≤ R.locals; omega⟩) ⟨c_blind, c_recv4 hK hP hk, c_pre hK hP⟩ rfl rfl hsz rfl (lv_room hrest) hdg ⟨hR.2.2.1, hR.2.2.2⟩) kk
  · intro kk
    rw [show p_bears r k = p_plain r k from by unfold p_bears; simp only [e]] at kk
    rw [e]
    exact kk_R5i (va_runF (As := []) (rest := rest) (C := RX11) (x := ⟨"ThunderCasks$Thunders", "bears", "()I"⟩) (hK.1.1 11 _ rfl).2 S (k5_X6_bears l t r x k b hk hV) (va_cwF 0 S.2.2.2.2 (lw_F q746 q760 q621 q110 q638) rfl rfl rfl (hK.i (w := ("ThunderCasks$Heat", ⟨"ThunderCasks$Thunders", "bears", "()I"⟩, ⟨"ThunderCasks$Cask", "bears", "()I"⟩)) 11 rfl) (by decide +kernel) ⟨by have := hR.1; show 1 + 1 ≤ _; omega, by have := hR.2.1; show 8 + (1 + 11) + 38 * 1 ≤ R.locals; omega⟩) ⟨c_blind, c_recv5 hK hP hk, c_pre hK hP⟩ rfl rfl hsz rfl (lv_room hrest) hdg ⟨hR.2.2.1, hR.2.2.2⟩) kk
  · intro kk
    rw [show p_bears r k = p_plain r k / 2 from by unfold p_bears; simp only [e]] at kk
    rw [e]
    exact kk_R5i (va_runF (As := []) (rest := rest) (C := RX12) (x := ⟨"ThunderCasks$Thunders", "bears", "()I"⟩) (hK.1.1 12 _ rfl).2 S (k6_X7_bears l t r x k b hk hV) (va_cwF 0 S.2.2.2.2 (lw_F q746 q758 q625 q111 q626) rfl rfl rfl (hK.i (w := ("ThunderCasks$Forged", ⟨"ThunderCasks$Thunders", "bears", "()I"⟩, ⟨"ThunderCasks$Crack", "bears", "()I"⟩)) 10 rfl) (by decide +kernel) ⟨by have := hR.1; show 2 + 1 ≤ _; omega, by have := hR.2.1; show 8 + (1 + 11) + 38 * 2 ≤ R.locals; omega⟩) ⟨c_blind, c_recv6 hK hP hk, c_pre hK hP⟩ rfl rfl hsz rfl (lv_room hrest) hdg ⟨hR.2.2.1, hR.2.2.2⟩) kk
end CC

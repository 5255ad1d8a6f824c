/-! made: a cask of a kind -/
abbrev cOf (a0 n : Nat) : List Value := [.int (nI n), .ref a0, .ref a0, .ref a0, .ref a0]
def maQ (D : va_G) (sz ci a0 n : Nat) : Array Value → State → Outcome → State → Prop := fun _ st oc t => (∃ q, oc = .returned (some (.ref q)) ∧ sz ≤ q ∧ va_at D cC (q, .inr (ci, cOf a0 n)) t.heap) ∧ va_F (fun q => sz ≤ q) st t
set_option maxHeartbeats 4000000 in
theorem k0_made0 (l : Launch) (D : va_G) (tys : List (ClassId × FieldType)) (sz a0 n : Nat) : Met l yX0_made (ws_ yX0_made cX0_made 3 (some (.object "ThunderCasks$Cask"))) { frames := 2, cells := 1, slots := 5, locals := 38 * 2 } (va_Pc [.ref a0, .int (nI 0), .int (nI n)] (fun U => U.heap.size = sz ∧ va_K D cC tys U)) (maQ D sz 6 a0 n) 1 5 (fun q => sz ≤ q) := by
  refine kk_start (by decide) (Nat.le_of_ble_eq_true rfl) ?_
  intro p e s m below meth c S hr hlk hin hB ls hl
  obtain ⟨hsz, hK⟩ := hB
  subst hsz
  have hx := S.1
  have hb := S.2.1
  have hown : s.vm.findClass RX0 = some m.cls := S.2.2.2.1
  have hts := S.2.2.2.2
  have hS : va_S (fun q => s.heap.size ≤ q) s.heap s.heap [] := va_S.rf
  have hP : va_P D cC [] s.heap := fun k q hq => by simp at hq
  have hD : va_D (fun q => s.heap.size ≤ q) [] := ⟨fun i j p q h1 => by simp at h1, fun k q hq => by simp at hq⟩
  have hl : lv_has ls 3 [(0, .ref a0), (1, .int (nI 0)), (2, .int (nI n))] := hl
  refine lv_iload_n hx hb dX0_made_0 rfl (lv_at hl 1 rfl) ?_
  refine kb_tabOut (tgt := 100) S (show nI 0 = nI 0 from rfl) (by decide) dX0_made_1 (by decide) (by decide) ?_
  refine va_new (fs := [.int 0, .null]) hx hb hts in_X6 tyX6 tyX6_ok hown (hts _ q401) (hts _ q402) (hts _ q110) hK hP hD hS (fun q h => h) (ci := 6) rfl (by decide) (Nat.le_of_ble_eq_true rfl) (Nat.le_of_ble_eq_true rfl) dX0_made_100 (fun q H hP hD hS => ?_)
  have hq : s.heap.size ≤ q := hD.2 0 _ rfl
  have hO := obK.of (ci := 6) rfl (hP 0 _ rfl)
  refine lv_dup hx hb dX0_made_103 rfl ?_
  refine lv_aload_n hx hb dX0_made_104 rfl (lv_at hl 0 rfl) ?_
  refine lv_iload_n hx hb dX0_made_105 rfl (lv_at hl 2 rfl) ?_
  refine kk_Wv (W.runI (As := [.ref a0, .int (nI n)]) (rest := [.ref q]) S (kX6_new6 l D tys q a0 n) (cwI 2 hts (lw_meth q324) rfl rfl rfl (hts _ q110) (hts _ q403) (hts _ q323) rfl (by decide +kernel) ⟨Nat.le_of_ble_eq_true rfl, Nat.le_of_ble_eq_true rfl⟩) ⟨kaB_blind, kaB_pre hK (hO.le (fun j hj v hv => by rcases (show j = 0 ∨ j = 1 by omega) with e | e <;> subst e <;> cases hv))⟩ rfl rfl hl.1 rfl (Nat.le_of_ble_eq_true rfl) dX0_made_106 ⟨Nat.le_of_ble_eq_true rfl, Nat.le_of_ble_eq_true rfl⟩) hS (fun _ h => h ▸ hq) (fun _ h => h ▸ hq) (fun H1 locs1 hB _ _ hS => ?_)
  have hfin : va_at D cC (q, .inr (6, cOf a0 n)) H1 := obK.to (N := 2) rfl (hB.le (fun j hj v hv => by rcases (show j = 0 ∨ j = 1 by omega) with e | e <;> subst e <;> exact hv))
  exact W.mono (fun _ h => MQ.up (c := 0 + 1) (n := 0 + 2) (by decide) (by decide) h) (W.aret S.1 S.2.1 hr (Or.inl ⟨_, rfl⟩) (Or.inr ⟨_, rfl⟩) (fun t ht _ => ⟨⟨q, rfl, hq, by rw [ht]; exact hfin⟩, hS.F ht⟩) hS.2.2 dX0_made_109 hlk)
set_option maxHeartbeats 4000000 in
theorem k0_made1 (l : Launch) (D : va_G) (tys : List (ClassId × FieldType)) (sz a0 n : Nat) : Met l yX0_made (ws_ yX0_made cX0_made 3 (some (.object "ThunderCasks$Cask"))) { frames := 3, cells := 1, slots := 5, locals := 38 * 3 } (va_Pc [.ref a0, .int (nI 1), .int (nI n)] (fun U => U.heap.size = sz ∧ va_K D cC tys U)) (maQ D sz 7 a0 n) 1 5 (fun q => sz ≤ q) := by
  refine kk_start (by decide) (Nat.le_of_ble_eq_true rfl) ?_
  intro p e s m below meth c S hr hlk hin hB ls hl
  obtain ⟨hsz, hK⟩ := hB
  subst hsz
  have hx := S.1
  have hb := S.2.1
  have hown : s.vm.findClass RX0 = some m.cls := S.2.2.2.1
  have hts := S.2.2.2.2
  have hS : va_S (fun q => s.heap.size ≤ q) s.heap s.heap [] := va_S.rf
  have hP : va_P D cC [] s.heap := fun k q hq => by simp at hq
  have hD : va_D (fun q => s.heap.size ≤ q) [] := ⟨fun i j p q h1 => by simp at h1, fun k q hq => by simp at hq⟩
  have hl : lv_has ls 3 [(0, .ref a0), (1, .int (nI 1)), (2, .int (nI n))] := hl
  refine lv_iload_n hx hb dX0_made_0 rfl (lv_at hl 1 rfl) ?_
  refine kb_tabIn (tgt := 40) S (show nI 1 = nI 1 from rfl) (by decide) dX0_made_1 (by decide) (by decide) rfl (by decide) ?_
  refine va_new (fs := [.int 0, .null, .null]) hx hb hts in_X7 tyX7 tyX7_ok hown (hts _ q317) (hts _ q318) (hts _ q111) hK hP hD hS (fun q h => h) (ci := 7) rfl (by decide) (Nat.le_of_ble_eq_true rfl) (Nat.le_of_ble_eq_true rfl) dX0_made_40 (fun q H hP hD hS => ?_)
  have hq : s.heap.size ≤ q := hD.2 0 _ rfl
  have hO := obK.of (ci := 7) rfl (hP 0 _ rfl)
  refine lv_dup hx hb dX0_made_43 rfl ?_
  refine lv_aload_n hx hb dX0_made_44 rfl (lv_at hl 0 rfl) ?_
  refine lv_iload_n hx hb dX0_made_45 rfl (lv_at hl 2 rfl) ?_
  refine kk_Wv (W.runI (As := [.ref a0, .int (nI n)]) (rest := [.ref q]) S (kX7_new7 l D tys q a0 n) (cwI 2 hts (lw_meth q321) rfl rfl rfl (hts _ q111) (hts _ q319) (hts _ q320) rfl (by decide +kernel) ⟨Nat.le_of_ble_eq_true rfl, Nat.le_of_ble_eq_true rfl⟩) ⟨kaB_blind, kaB_pre hK (hO.le (fun j hj v hv => by rcases (show j = 0 ∨ j = 1 ∨ j = 2 by omega) with e | e | e <;> subst e <;> cases hv))⟩ rfl rfl hl.1 rfl (Nat.le_of_ble_eq_true rfl) dX0_made_46 ⟨Nat.le_of_ble_eq_true rfl, Nat.le_of_ble_eq_true rfl⟩) hS (fun _ h => h ▸ hq) (fun _ h => h ▸ hq) (fun H1 locs1 hB _ _ hS => ?_)
  have hfin : va_at D cC (q, .inr (7, cOf a0 n)) H1 := obK.to (N := 3) rfl (hB.le (fun j hj v hv => by rcases (show j = 0 ∨ j = 1 ∨ j = 2 by omega) with e | e | e <;> subst e <;> exact hv))
  exact W.mono (fun _ h => MQ.up (c := 0 + 1) (n := 0 + 3) (by decide) (by decide) h) (W.aret S.1 S.2.1 hr (Or.inl ⟨_, rfl⟩) (Or.inr ⟨_, rfl⟩) (fun t ht _ => ⟨⟨q, rfl, hq, by rw [ht]; exact hfin⟩, hS.F ht⟩) hS.2.2 dX0_made_49 hlk)
set_option maxHeartbeats 4000000 in
theorem k0_made2 (l : Launch) (D : va_G) (tys : List (ClassId × FieldType)) (sz a0 n : Nat) : Met l yX0_made (ws_ yX0_made cX0_made 3 (some (.object "ThunderCasks$Cask"))) { frames := 3, cells := 1, slots := 5, locals := 38 * 3 } (va_Pc [.ref a0, .int (nI 2), .int (nI n)] (fun U => U.heap.size = sz ∧ va_K D cC tys U)) (maQ D sz 8 a0 n) 1 5 (fun q => sz ≤ q) := by
  refine kk_start (by decide) (Nat.le_of_ble_eq_true rfl) ?_
  intro p e s m below meth c S hr hlk hin hB ls hl
  obtain ⟨hsz, hK⟩ := hB
  subst hsz
  have hx := S.1
  have hb := S.2.1
  have hown : s.vm.findClass RX0 = some m.cls := S.2.2.2.1
  have hts := S.2.2.2.2
  have hS : va_S (fun q => s.heap.size ≤ q) s.heap s.heap [] := va_S.rf
  have hP : va_P D cC [] s.heap := fun k q hq => by simp at hq
  have hD : va_D (fun q => s.heap.size ≤ q) [] := ⟨fun i j p q h1 => by simp at h1, fun k q hq => by simp at hq⟩
  have hl : lv_has ls 3 [(0, .ref a0), (1, .int (nI 2)), (2, .int (nI n))] := hl
  refine lv_iload_n hx hb dX0_made_0 rfl (lv_at hl 1 rfl) ?_
  refine kb_tabIn (tgt := 50) S (show nI 2 = nI 2 from rfl) (by decide) dX0_made_1 (by decide) (by decide) rfl (by decide) ?_
  refine va_new (fs := [.int 0, .null, .null]) hx hb hts in_X8 tyX8 tyX8_ok hown (hts _ q337) (hts _ q338) (hts _ q112) hK hP hD hS (fun q h => h) (ci := 8) rfl (by decide) (Nat.le_of_ble_eq_true rfl) (Nat.le_of_ble_eq_true rfl) dX0_made_50 (fun q H hP hD hS => ?_)
  have hq : s.heap.size ≤ q := hD.2 0 _ rfl
  have hO := obK.of (ci := 8) rfl (hP 0 _ rfl)
  refine lv_dup hx hb dX0_made_53 rfl ?_
  refine lv_aload_n hx hb dX0_made_54 rfl (lv_at hl 0 rfl) ?_
  refine lv_iload_n hx hb dX0_made_55 rfl (lv_at hl 2 rfl) ?_
  refine kk_Wv (W.runI (As := [.ref a0, .int (nI n)]) (rest := [.ref q]) S (kX8_new8 l D tys q a0 n) (cwI 2 hts (lw_meth q341) rfl rfl rfl (hts _ q112) (hts _ q339) (hts _ q340) rfl (by decide +kernel) ⟨Nat.le_of_ble_eq_true rfl, Nat.le_of_ble_eq_true rfl⟩) ⟨kaB_blind, kaB_pre hK (hO.le (fun j hj v hv => by rcases (show j = 0 ∨ j = 1 ∨ j = 2 by omega) with e | e | e <;> subst e <;> cases hv))⟩ rfl rfl hl.1 rfl (Nat.le_of_ble_eq_true rfl) dX0_made_56 ⟨Nat.le_of_ble_eq_true rfl, Nat.le_of_ble_eq_true rfl⟩) hS (fun _ h => h ▸ hq) (fun _ h => h ▸ hq) (fun H1 locs1 hB _ _ hS => ?_)
  have hfin : va_at D cC (q, .inr (8, cOf a0 n)) H1 := obK.to (N := 3) rfl (hB.le (fun j hj v hv => by rcases (show j = 0 ∨ j = 1 ∨ j = 2 by omega) with e | e | e <;> subst e <;> exact hv))
  exact W.mono (fun _ h => MQ.up (c := 0 + 1) (n := 0 + 3) (by decide) (by decide) h) (W.aret S.1 S.2.1 hr (Or.inl ⟨_, rfl⟩) (Or.inr ⟨_, rfl⟩) (fun t ht _ => ⟨⟨q, rfl, hq, by rw [ht]; exact hfin⟩, hS.F ht⟩) hS.2.2 dX0_made_59 hlk)
set_option maxHeartbeats 4000000 in
theorem k0_made3 (l : Launch) (D : va_G) (tys : List (ClassId × FieldType)) (sz a0 n : Nat) : Met l yX0_made (ws_ yX0_made cX0_made 3 (some (.object "ThunderCasks$Cask"))) { frames := 4, cells := 1, slots := 5, locals := 38 * 4 } (va_Pc [.ref a0, .int (nI 3), .int (nI n)] (fun U => U.heap.size = sz ∧ va_K D cC tys U)) (maQ D sz 9 a0 n) 1 5 (fun q => sz ≤ q) := by
  refine kk_start (by decide) (Nat.le_of_ble_eq_true rfl) ?_
  intro p e s m below meth c S hr hlk hin hB ls hl
  obtain ⟨hsz, hK⟩ := hB
  subst hsz
  have hx := S.1
  have hb := S.2.1
  have hown : s.vm.findClass RX0 = some m.cls := S.2.2.2.1
  have hts := S.2.2.2.2
  have hS : va_S (fun q => s.heap.size ≤ q) s.heap s.heap [] := va_S.rf
  have hP : va_P D cC [] s.heap := fun k q hq => by simp at hq
  have hD : va_D (fun q => s.heap.size ≤ q) [] := ⟨fun i j p q h1 => by simp at h1, fun k q hq => by simp at hq⟩
  have hl : lv_has ls 3 [(0, .ref a0), (1, .int (nI 3)), (2, .int (nI n))] := hl
  refine lv_iload_n hx hb dX0_made_0 rfl (lv_at hl 1 rfl) ?_
  refine kb_tabIn (tgt := 60) S (show nI 3 = nI 3 from rfl) (by decide) dX0_made_1 (by decide) (by decide) rfl (by decide) ?_
  refine va_new (fs := [.int 0, .null, .null, .null]) hx hb hts in_X9 tyX9 tyX9_ok hown (hts _ q349) (hts _ q350) (hts _ q113) hK hP hD hS (fun q h => h) (ci := 9) rfl (by decide) (Nat.le_of_ble_eq_true rfl) (Nat.le_of_ble_eq_true rfl) dX0_made_60 (fun q H hP hD hS => ?_)
  have hq : s.heap.size ≤ q := hD.2 0 _ rfl
  have hO := obK.of (ci := 9) rfl (hP 0 _ rfl)
  refine lv_dup hx hb dX0_made_63 rfl ?_
  refine lv_aload_n hx hb dX0_made_64 rfl (lv_at hl 0 rfl) ?_
  refine lv_iload_n hx hb dX0_made_65 rfl (lv_at hl 2 rfl) ?_
  refine kk_Wv (W.runI (As := [.ref a0, .int (nI n)]) (rest := [.ref q]) S (kX9_new9 l D tys q a0 n) (cwI 2 hts (lw_meth q353) rfl rfl rfl (hts _ q113) (hts _ q351) (hts _ q352) rfl (by decide +kernel) ⟨Nat.le_of_ble_eq_true rfl, Nat.le_of_ble_eq_true rfl⟩) ⟨kaB_blind, kaB_pre hK (hO.le (fun j hj v hv => by rcases (show j = 0 ∨ j = 1 ∨ j = 2 ∨ j = 3 by omega) with e | e | e | e <;> subst e <;> cases hv))⟩ rfl rfl hl.1 rfl (Nat.le_of_ble_eq_true rfl) dX0_made_66 ⟨Nat.le_of_ble_eq_true rfl, Nat.le_of_ble_eq_true rfl⟩) hS (fun _ h => h ▸ hq) (fun _ h => h ▸ hq) (fun H1 locs1 hB _ _ hS => ?_)
  have hfin : va_at D cC (q, .inr (9, cOf a0 n)) H1 := obK.to (N := 4) rfl (hB.le (fun j hj v hv => by rcases (show j = 0 ∨ j = 1 ∨ j = 2 ∨ j = 3 by omega) with e | e | e | e <;> subst e <;> exact hv))
  exact W.mono (fun _ h => MQ.up (c := 0 + 1) (n := 0 + 4) (by decide) (by decide) h) (W.aret S.1 S.2.1 hr (Or.inl ⟨_, rfl⟩) (Or.inr ⟨_, rfl⟩) (fun t ht _ => ⟨⟨q, rfl, hq, by rw [ht]; exact hfin⟩, hS.F ht⟩) hS.2.2 dX0_made_69 hlk)
set_option maxHeartbeats 4000000 in
theorem k0_made4 (l : Launch) (D : va_G) (tys : List (ClassId × FieldType)) (sz a0 n : Nat) : Met l yX0_made (ws_ yX0_made cX0_made 3 (some (.object "ThunderCasks$Cask"))) { frames := 5, cells := 1, slots := 5, locals := 38 * 5 } (va_Pc [.ref a0, .int (nI 4), .int (nI n)] (fun U => U.heap.size = sz ∧ va_K D cC tys U)) (maQ D sz 10 a0 n) 1 5 (fun q => sz ≤ q) := by
  refine kk_start (by decide) (Nat.le_of_ble_eq_true rfl) ?_
  intro p e s m below meth c S hr hlk hin hB ls hl
  obtain ⟨hsz, hK⟩ := hB
  subst hsz
  have hx := S.1
  have hb := S.2.1
  have hown : s.vm.findClass RX0 = some m.cls := S.2.2.2.1
  have hts := S.2.2.2.2
  have hS : va_S (fun q => s.heap.size ≤ q) s.heap s.heap [] := va_S.rf
  have hP : va_P D cC [] s.heap := fun k q hq => by simp at hq
  have hD : va_D (fun q => s.heap.size ≤ q) [] := ⟨fun i j p q h1 => by simp at h1, fun k q hq => by simp at hq⟩
  have hl : lv_has ls 3 [(0, .ref a0), (1, .int (nI 4)), (2, .int (nI n))] := hl
  refine lv_iload_n hx hb dX0_made_0 rfl (lv_at hl 1 rfl) ?_
  refine kb_tabIn (tgt := 70) S (show nI 4 = nI 4 from rfl) (by decide) dX0_made_1 (by decide) (by decide) rfl (by decide) ?_
  refine va_new (fs := [.int 0, .null, .null, .null, .null]) hx hb hts in_X10 tyX10 tyX10_ok hown (hts _ q362) (hts _ q363) (hts _ q114) hK hP hD hS (fun q h => h) (ci := 10) rfl (by decide) (Nat.le_of_ble_eq_true rfl) (Nat.le_of_ble_eq_true rfl) dX0_made_70 (fun q H hP hD hS => ?_)
  have hq : s.heap.size ≤ q := hD.2 0 _ rfl
  have hO := obK.of (ci := 10) rfl (hP 0 _ rfl)
  refine lv_dup hx hb dX0_made_73 rfl ?_
  refine lv_aload_n hx hb dX0_made_74 rfl (lv_at hl 0 rfl) ?_
  refine lv_iload_n hx hb dX0_made_75 rfl (lv_at hl 2 rfl) ?_
  refine kk_Wv (W.runI (As := [.ref a0, .int (nI n)]) (rest := [.ref q]) S (kX10_new10 l D tys q a0 n) (cwI 2 hts (lw_meth q366) rfl rfl rfl (hts _ q114) (hts _ q364) (hts _ q365) rfl (by decide +kernel) ⟨Nat.le_of_ble_eq_true rfl, Nat.le_of_ble_eq_true rfl⟩) ⟨kaB_blind, kaB_pre hK (hO.le (fun j hj v hv => by rcases (show j = 0 ∨ j = 1 ∨ j = 2 ∨ j = 3 ∨ j = 4 by omega) with e | e | e | e | e <;> subst e <;> cases hv))⟩ rfl rfl hl.1 rfl (Nat.le_of_ble_eq_true rfl) dX0_made_76 ⟨Nat.le_of_ble_eq_true rfl, Nat.le_of_ble_eq_true rfl⟩) hS (fun _ h => h ▸ hq) (fun _ h => h ▸ hq) (fun H1 locs1 hB _ _ hS => ?_)
  have hfin : va_at D cC (q, .inr (10, cOf a0 n)) H1 := obK.to (N := 5) rfl (hB.le (fun j hj v hv => by rcases (show j = 0 ∨ j = 1 ∨ j = 2 ∨ j = 3 ∨ j = 4 by omega) with e | e | e | e | e <;> subst e <;> exact hv))
  exact W.mono (fun _ h => MQ.up (c := 0 + 1) (n := 0 + 5) (by decide) (by decide) h) (W.aret S.1 S.2.1 hr (Or.inl ⟨_, rfl⟩) (Or.inr ⟨_, rfl⟩) (fun t ht _ => ⟨⟨q, rfl, hq, by rw [ht]; exact hfin⟩, hS.F ht⟩) hS.2.2 dX0_made_79 hlk)
set_option maxHeartbeats 4000000 in
theorem k0_made5 (l : Launch) (D : va_G) (tys : List (ClassId × FieldType)) (sz a0 n : Nat) : Met l yX0_made (ws_ yX0_made cX0_made 3 (some (.object "ThunderCasks$Cask"))) { frames := 3, cells := 1, slots := 5, locals := 38 * 3 } (va_Pc [.ref a0, .int (nI 5), .int (nI n)] (fun U => U.heap.size = sz ∧ va_K D cC tys U)) (maQ D sz 11 a0 n) 1 5 (fun q => sz ≤ q) := by
  refine kk_start (by decide) (Nat.le_of_ble_eq_true rfl) ?_
  intro p e s m below meth c S hr hlk hin hB ls hl
  obtain ⟨hsz, hK⟩ := hB
  subst hsz
  have hx := S.1
  have hb := S.2.1
  have hown : s.vm.findClass RX0 = some m.cls := S.2.2.2.1
  have hts := S.2.2.2.2
  have hS : va_S (fun q => s.heap.size ≤ q) s.heap s.heap [] := va_S.rf
  have hP : va_P D cC [] s.heap := fun k q hq => by simp at hq
  have hD : va_D (fun q => s.heap.size ≤ q) [] := ⟨fun i j p q h1 => by simp at h1, fun k q hq => by simp at hq⟩
  have hl : lv_has ls 3 [(0, .ref a0), (1, .int (nI 5)), (2, .int (nI n))] := hl
  refine lv_iload_n hx hb dX0_made_0 rfl (lv_at hl 1 rfl) ?_
  refine kb_tabIn (tgt := 80) S (show nI 5 = nI 5 from rfl) (by decide) dX0_made_1 (by decide) (by decide) rfl (by decide) ?_
  refine va_new (fs := [.int 0, .null, .null]) hx hb hts in_X11 tyX11 tyX11_ok hown (hts _ q376) (hts _ q377) (hts _ q115) hK hP hD hS (fun q h => h) (ci := 11) rfl (by decide) (Nat.le_of_ble_eq_true rfl) (Nat.le_of_ble_eq_true rfl) dX0_made_80 (fun q H hP hD hS => ?_)
  have hq : s.heap.size ≤ q := hD.2 0 _ rfl
  have hO := obK.of (ci := 11) rfl (hP 0 _ rfl)
  refine lv_dup hx hb dX0_made_83 rfl ?_
  refine lv_aload_n hx hb dX0_made_84 rfl (lv_at hl 0 rfl) ?_
  refine lv_iload_n hx hb dX0_made_85 rfl (lv_at hl 2 rfl) ?_
  refine kk_Wv (W.runI (As := [.ref a0, .int (nI n)]) (rest := [.ref q]) S (kX11_new11 l D tys q a0 n) (cwI 2 hts (lw_meth q380) rfl rfl rfl (hts _ q115) (hts _ q378) (hts _ q379) rfl (by decide +kernel) ⟨Nat.le_of_ble_eq_true rfl, Nat.le_of_ble_eq_true rfl⟩) ⟨kaB_blind, kaB_pre hK (hO.le (fun j hj v hv => by rcases (show j = 0 ∨ j = 1 ∨ j = 2 by omega) with e | e | e <;> subst e <;> cases hv))⟩ rfl rfl hl.1 rfl (Nat.le_of_ble_eq_true rfl) dX0_made_86 ⟨Nat.le_of_ble_eq_true rfl, Nat.le_of_ble_eq_true rfl⟩) hS (fun _ h => h ▸ hq) (fun _ h => h ▸ hq) (fun H1 locs1 hB _ _ hS => ?_)
  have hfin : va_at D cC (q, .inr (11, cOf a0 n)) H1 := obK.to (N := 3) rfl (hB.le (fun j hj v hv => by rcases (show j = 0 ∨ j = 1 ∨ j = 2 by omega) with e | e | e <;> subst e <;> exact hv))
  exact W.mono (fun _ h => MQ.up (c := 0 + 1) (n := 0 + 3) (by decide) (by decide) h) (W.aret S.1 S.2.1 hr (Or.inl ⟨_, rfl⟩) (Or.inr ⟨_, rfl⟩) (fun t ht _ => ⟨⟨q, rfl, hq, by rw [ht]; exact hfin⟩, hS.F ht⟩) hS.2.2 dX0_made_89 hlk)
set_option maxHeartbeats 4000000 in
theorem k0_made6 (l : Launch) (D : va_G) (tys : List (ClassId × FieldType)) (sz a0 n : Nat) : Met l yX0_made (ws_ yX0_made cX0_made 3 (some (.object "ThunderCasks$Cask"))) { frames := 4, cells := 1, slots := 5, locals := 38 * 4 } (va_Pc [.ref a0, .int (nI 6), .int (nI n)] (fun U => U.heap.size = sz ∧ va_K D cC tys U)) (maQ D sz 12 a0 n) 1 5 (fun q => sz ≤ q) := by
  refine kk_start (by decide) (Nat.le_of_ble_eq_true rfl) ?_
  intro p e s m below meth c S hr hlk hin hB ls hl
  obtain ⟨hsz, hK⟩ := hB
  subst hsz
  have hx := S.1
  have hb := S.2.1
  have hown : s.vm.findClass RX0 = some m.cls := S.2.2.2.1
  have hts := S.2.2.2.2
  have hS : va_S (fun q => s.heap.size ≤ q) s.heap s.heap [] := va_S.rf
  have hP : va_P D cC [] s.heap := fun k q hq => by simp at hq
  have hD : va_D (fun q => s.heap.size ≤ q) [] := ⟨fun i j p q h1 => by simp at h1, fun k q hq => by simp at hq⟩
  have hl : lv_has ls 3 [(0, .ref a0), (1, .int (nI 6)), (2, .int (nI n))] := hl
  refine lv_iload_n hx hb dX0_made_0 rfl (lv_at hl 1 rfl) ?_
  refine kb_tabIn (tgt := 90) S (show nI 6 = nI 6 from rfl) (by decide) dX0_made_1 (by decide) (by decide) rfl (by decide) ?_
  refine va_new (fs := [.int 0, .null, .null, .null]) hx hb hts in_X12 tyX12 tyX12_ok hown (hts _ q388) (hts _ q389) (hts _ q116) hK hP hD hS (fun q h => h) (ci := 12) rfl (by decide) (Nat.le_of_ble_eq_true rfl) (Nat.le_of_ble_eq_true rfl) dX0_made_90 (fun q H hP hD hS => ?_)
  have hq : s.heap.size ≤ q := hD.2 0 _ rfl
  have hO := obK.of (ci := 12) rfl (hP 0 _ rfl)
  refine lv_dup hx hb dX0_made_93 rfl ?_
  refine lv_aload_n hx hb dX0_made_94 rfl (lv_at hl 0 rfl) ?_
  refine lv_iload_n hx hb dX0_made_95 rfl (lv_at hl 2 rfl) ?_
  refine kk_Wv (W.runI (As := [.ref a0, .int (nI n)]) (rest := [.ref q]) S (kX12_new12 l D tys q a0 n) (cwI 2 hts (lw_meth q392) rfl rfl rfl (hts _ q116) (hts _ q390) (hts _ q391) rfl (by decide +kernel) ⟨Nat.le_of_ble_eq_true rfl, Nat.le_of_ble_eq_true rfl⟩) ⟨kaB_blind, kaB_pre hK (hO.le (fun j hj v hv => by rcases (show j = 0 ∨ j = 1 ∨ j = 2 ∨ j = 3 by omega) with e | e | e | e <;> subst e <;> cases hv))⟩ rfl rfl hl.1 rfl (Nat.le_of_ble_eq_true rfl) dX0_made_96 ⟨Nat.le_of_ble_eq_true rfl, Nat.le_of_ble_eq_true rfl⟩) hS (fun _ h => h ▸ hq) (fun _ h => h ▸ hq) (fun H1 locs1 hB _ _ hS => ?_)
  have hfin : va_at D cC (q, .inr (12, cOf a0 n)) H1 := obK.to (N := 4) rfl (hB.le (fun j hj v hv => by rcases (show j = 0 ∨ j = 1 ∨ j = 2 ∨ j = 3 by omega) with e | e | e | e <;> subst e <;> exact hv))
  exact W.mono (fun _ h => MQ.up (c := 0 + 1) (n := 0 + 4) (by decide) (by decide) h) (W.aret S.1 S.2.1 hr (Or.inl ⟨_, rfl⟩) (Or.inr ⟨_, rfl⟩) (fun t ht _ => ⟨⟨q, rfl, hq, by rw [ht]; exact hfin⟩, hS.F ht⟩) hS.2.2 dX0_made_99 hlk)

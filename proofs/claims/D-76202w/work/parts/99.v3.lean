/-! THROWABLES: the refusal's and the wrong's constructors -/
/-- the two statics that Throwable's constructor reads, outside of what is new -/
def thS (N : Nat) (U : State) (H : Heap) : Prop := va_Zq "java/lang/Throwable" "UNASSIGNED_STACK" "[Ljava/lang/StackTraceElement;" (fun q => N ≤ q) U H ∧ va_Zq "java/lang/Throwable" "SUPPRESSED_SENTINEL" "Ljava/util/List;" (fun q => N ≤ q) U H
theorem thS.moved {N : Nat} {u U : State} {H : Heap} (hvm : u.vm.Alike U.vm) (h : thS N u H) : thS N U H := ⟨va_Zq.moved hvm h.1, va_Zq.moved hvm h.2⟩
theorem thS.kept {N : Nat} {U : State} {H H1 : Heap} (h : thS N U H) (hq : ∀ a : Nat, a < H.size → ¬ N ≤ a → H1[a]? = H[a]?) : thS N U H1 := ⟨h.1.kept hq, h.2.kept hq⟩
theorem zq_v {C n d : String} {A : Nat → Prop} {U : State} {H : Heap} (h : va_Zq C n d A U H) : ∃ v, (v = .null ∨ ∃ a, v = .ref a) ∧ va_Z C n d v A U H := by
  rcases h with h | ⟨a, h⟩
  · exact ⟨_, Or.inl rfl, h⟩
  · exact ⟨_, Or.inr ⟨a, rfl⟩, h⟩
theorem one_D {o : Nat} {e : va_E} : va_D (fun q => q = o) [(o, e)] := ⟨fun i j p q h1 h2 _ => by
    have := (List.getElem?_eq_some_iff.mp h1).1
    have := (List.getElem?_eq_some_iff.mp h2).1
    simp at *; omega, fun k q hq => by
    match k, hq with
    | 0, hq => cases hq; rfl
    | k + 1, hq => simp at hq⟩
def thB (D : va_G) (tys : List (ClassId × FieldType)) (N o ci : Nat) (fs : List Value) (U : State) : Prop := va_K D cC tys U ∧ va_at D cC (o, .inr (ci, fs)) U.heap ∧ thS N U U.heap
theorem thB_blind {D : va_G} {tys : List (ClassId × FieldType)} {N o ci : Nat} {fs av : List Value} : FrameBlind (va_Pc av (thB D tys N o ci fs)) := fun a U g mk h => ⟨h.1, va_K.moved (u := U) (U := U.calling g mk a) (Vm.Alike.refl U.vm) h.2.1, h.2.2.1, thS.moved (u := U) (U := U.calling g mk a) (Vm.Alike.refl U.vm) h.2.2.2⟩
theorem thB_pre {D : va_G} {tys : List (ClassId × FieldType)} {N o ci : Nat} {fs As : List Value} {s : State} {H : Heap} (hK : va_K D cC tys s) (hP : va_at D cC (o, .inr (ci, fs)) H) (hT : thS N s H) : ∀ U : State, U.heap = H → s.WarmedH U.vm → va_Pc As (thB D tys N o ci fs) As.toArray U := fun U hU hW => ⟨rfl, va_K.moved hW.alike hK, by rw [hU]; exact hP, by rw [hU]; exact hT.moved hW.alike⟩
set_option maxHeartbeats 4000000 in
theorem kJ0_th3 (l : Launch) (D : va_G) (tys : List (ClassId × FieldType)) (N o : Nat) (hN : N ≤ o) : Met l yJ0_init_2 (ws_ yJ0_init_2 cJ0_init_2 5 none) (rmF 1) (va_Pc [.ref o, .null, .null, .int 0, .int 0] (thB D tys N o 3 [.null, .null, .null, .null, .null, .int 0, .int 0])) (kW none (fun H => va_at D cC (o, .inr (3, [.null, .null, .null, .null, .null, .int 0, .int 0])) H) (fun q => q = o)) 0 0 (fun q => q = o) := by
  refine kk_start (by decide) (Nat.le_of_ble_eq_true rfl) ?_
  intro p e s m below meth c S hr hlk hin hB ls hl
  obtain ⟨hK, hP, hT⟩ := hB
  have hx := S.1
  have hb := S.2.1
  have hown := S.2.2.2.1
  have hts := S.2.2.2.2
  have hS : va_S (fun q => q = o) s.heap s.heap [] := va_S.rf
  have hA : ∀ q, q = o → N ≤ q := fun q e => e ▸ hN
  obtain ⟨v1, hv1, hZ1⟩ := zq_v (hT.1.narrow hA)
  obtain ⟨v2, hv2, hZ2⟩ := zq_v (hT.2.narrow hA)
  have hP : va_P D cC [(o, .inr (3, [.null, .null, .null, .null, .null, .int 0, .int 0]))] s.heap := co_P1 hP
  have hD : va_D (fun q => q = o) [(o, .inr (3, [.null, .null, .null, .null, .null, .int 0, .int 0]))] := one_D
  have hl : lv_has ls 5 [(0, .ref o), (1, .null), (2, .null), (3, .int 0), (4, .int 0)] := hl
  refine lv_aload_n hx hb dJ0_init_2_0 rfl (lv_at hl 0 rfl) ?_
  refine W.objInit hx hb hown (hts _ q158) (hts _ q131) (hts _ q132) rfl (by rw [S.2.2.1]; exact hl.1) rfl dJ0_init_2_1 (Nat.le_of_ble_eq_true rfl) (Nat.le_of_ble_eq_true rfl) ?_
  refine W.eq (g2 := F0 m 4 ls []) rfl ?_
  refine lv_aload_n hx hb dJ0_init_2_4 rfl (lv_at hl 0 rfl) ?_
  refine lv_aload_n hx hb dJ0_init_2_5 rfl (lv_at hl 0 rfl) ?_
  refine va_put hx hb hts in_X1 tyX1 tyX1_ok nmX1 hown hK hP hD hS 0 rfl rfl 0 (by decide) (hts _ q188) (fun _ h => h) rfl (tyX1_ok 0 (by decide)) (rfl) (rfl) (Nat.le_of_ble_eq_true rfl) dJ0_init_2_6 (fun H locs hP hD hS => ?_)
  have hP : va_P D cC [(o, .inr (3, [.ref o, .null, .null, .null, .null, .int 0, .int 0]))] H := hP
  have hD : va_D (fun q => q = o) [(o, .inr (3, [.ref o, .null, .null, .null, .null, .int 0, .int 0]))] := hD
  refine lv_aload_n hx hb dJ0_init_2_9 rfl (lv_at hl 0 rfl) ?_
  refine va_gets hx hb hZ1 hS hown (hts _ q159) (fun _ h => h) dJ0_init_2_10 ?_
  refine va_put hx hb hts in_X1 tyX1 tyX1_ok nmX1 hown hK hP hD hS 0 rfl rfl 1 (by decide) (hts _ q189) (fun _ h => h) rfl (tyX1_ok 1 (by decide)) (by rcases hv1 with rfl | ⟨_, rfl⟩ <;> rfl) (by rcases hv1 with rfl | ⟨_, rfl⟩ <;> rfl) (Nat.le_of_ble_eq_true rfl) dJ0_init_2_13 (fun H locs hP hD hS => ?_)
  have hP : va_P D cC [(o, .inr (3, [.ref o, v1, .null, .null, .null, .int 0, .int 0]))] H := hP
  have hD : va_D (fun q => q = o) [(o, .inr (3, [.ref o, v1, .null, .null, .null, .int 0, .int 0]))] := hD
  refine lv_aload_n hx hb dJ0_init_2_16 rfl (lv_at hl 0 rfl) ?_
  refine va_gets hx hb hZ2 hS hown (hts _ q161) (fun _ h => h) dJ0_init_2_17 ?_
  refine va_put hx hb hts in_X1 tyX1 tyX1_ok nmX1 hown hK hP hD hS 0 rfl rfl 2 (by decide) (hts _ q190) (fun _ h => h) rfl (tyX1_ok 2 (by decide)) (by rcases hv2 with rfl | ⟨_, rfl⟩ <;> rfl) (by rcases hv2 with rfl | ⟨_, rfl⟩ <;> rfl) (Nat.le_of_ble_eq_true rfl) dJ0_init_2_20 (fun H locs hP hD hS => ?_)
  have hP : va_P D cC [(o, .inr (3, [.ref o, v1, v2, .null, .null, .int 0, .int 0]))] H := hP
  have hD : va_D (fun q => q = o) [(o, .inr (3, [.ref o, v1, v2, .null, .null, .int 0, .int 0]))] := hD
  refine lv_iload hx hb dJ0_init_2_23 (lv_at hl 4 rfl) ?_
  refine lv_if_eq (tgt := 36) hx hb dJ0_init_2_25 (by decide) (fun c_25 => ?_) (fun c_25 => absurd rfl c_25)
  refine lv_aload_n hx hb dJ0_init_2_36 rfl (lv_at hl 0 rfl) ?_
  refine lv_null hx hb dJ0_init_2_37 ?_
  refine va_put hx hb hts in_X1 tyX1 tyX1_ok nmX1 hown hK hP hD hS 0 rfl rfl 1 (by decide) (hts _ q189) (fun _ h => h) rfl (tyX1_ok 1 (by decide)) (rfl) (rfl) (Nat.le_of_ble_eq_true rfl) dJ0_init_2_38 (fun H locs hP hD hS => ?_)
  have hP : va_P D cC [(o, .inr (3, [.ref o, .null, v2, .null, .null, .int 0, .int 0]))] H := hP
  have hD : va_D (fun q => q = o) [(o, .inr (3, [.ref o, .null, v2, .null, .null, .int 0, .int 0]))] := hD
  refine lv_aload_n hx hb dJ0_init_2_41 rfl (lv_at hl 0 rfl) ?_
  refine lv_aload_nN hx hb dJ0_init_2_42 rfl (lv_at hl 1 rfl) ?_
  refine va_put hx hb hts in_X1 tyX1 tyX1_ok nmX1 hown hK hP hD hS 0 rfl rfl 3 (by decide) (hts _ q187) (fun _ h => h) rfl (tyX1_ok 3 (by decide)) (rfl) (rfl) (Nat.le_of_ble_eq_true rfl) dJ0_init_2_43 (fun H locs hP hD hS => ?_)
  have hP : va_P D cC [(o, .inr (3, [.ref o, .null, v2, .null, .null, .int 0, .int 0]))] H := hP
  have hD : va_D (fun q => q = o) [(o, .inr (3, [.ref o, .null, v2, .null, .null, .int 0, .int 0]))] := hD
  refine lv_aload_n hx hb dJ0_init_2_46 rfl (lv_at hl 0 rfl) ?_
  refine lv_aload_nN hx hb dJ0_init_2_47 rfl (lv_at hl 2 rfl) ?_
  refine va_put hx hb hts in_X1 tyX1 tyX1_ok nmX1 hown hK hP hD hS 0 rfl rfl 0 (by decide) (hts _ q188) (fun _ h => h) rfl (tyX1_ok 0 (by decide)) (rfl) (rfl) (Nat.le_of_ble_eq_true rfl) dJ0_init_2_48 (fun H locs hP hD hS => ?_)
  have hP : va_P D cC [(o, .inr (3, [.null, .null, v2, .null, .null, .int 0, .int 0]))] H := hP
  have hD : va_D (fun q => q = o) [(o, .inr (3, [.null, .null, v2, .null, .null, .int 0, .int 0]))] := hD
  refine lv_iload_n hx hb dJ0_init_2_51 rfl (lv_at hl 3 rfl) ?_
  refine lv_if_ne (tgt := 60) hx hb dJ0_init_2_52 (by decide) (fun c_52 => absurd rfl c_52) (fun c_52 => ?_)
  refine lv_aload_n hx hb dJ0_init_2_55 rfl (lv_at hl 0 rfl) ?_
  refine lv_null hx hb dJ0_init_2_56 ?_
  refine va_put hx hb hts in_X1 tyX1 tyX1_ok nmX1 hown hK hP hD hS 0 rfl rfl 2 (by decide) (hts _ q190) (fun _ h => h) rfl (tyX1_ok 2 (by decide)) (rfl) (rfl) (Nat.le_of_ble_eq_true rfl) dJ0_init_2_57 (fun H locs hP hD hS => ?_)
  have hP : va_P D cC [(o, .inr (3, [.null, .null, .null, .null, .null, .int 0, .int 0]))] H := hP
  have hD : va_D (fun q => q = o) [(o, .inr (3, [.null, .null, .null, .null, .null, .int 0, .int 0]))] := hD
  exact kk_vretW S hr hlk hS (hP 0 _ rfl) dJ0_init_2_60
theorem kJ1_th3 (l : Launch) (D : va_G) (tys : List (ClassId × FieldType)) (N o : Nat) (hN : N ≤ o) : Met l yJ1_init (ws_ yJ1_init cJ1_init 5 none) (rmF 2) (va_Pc [.ref o, .null, .null, .int 0, .int 0] (thB D tys N o 3 [.null, .null, .null, .null, .null, .int 0, .int 0])) (kW none (fun H => va_at D cC (o, .inr (3, [.null, .null, .null, .null, .null, .int 0, .int 0])) H) (fun q => q = o)) 0 0 (fun q => q = o) := by
  refine kk_start (by decide) (Nat.le_of_ble_eq_true rfl) ?_
  intro p e s m below meth c S hr hlk hin hB ls hl
  obtain ⟨hK, hP, hT⟩ := hB
  have hx := S.1
  have hb := S.2.1
  have hown := S.2.2.2.1
  have hts := S.2.2.2.2
  have hS : va_S (fun q => q = o) s.heap s.heap [] := va_S.rf
  have hl : lv_has ls 5 [(0, .ref o), (1, .null), (2, .null), (3, .int 0), (4, .int 0)] := hl
  refine lv_aload_n hx hb dJ1_init_0 rfl (lv_at hl 0 rfl) ?_
  refine lv_aload_nN hx hb dJ1_init_1 rfl (lv_at hl 1 rfl) ?_
  refine lv_aload_nN hx hb dJ1_init_2 rfl (lv_at hl 2 rfl) ?_
  refine lv_iload_n hx hb dJ1_init_3 rfl (lv_at hl 3 rfl) ?_
  refine lv_iload hx hb dJ1_init_4 (lv_at hl 4 rfl) ?_
  refine kk_Wv (W.runI (As := [.null, .null, .int 0, .int 0]) (rest := []) S (kJ0_th3 l D tys N o hN) (cwI 4 hts (lw_meth q184) rfl rfl rfl (hts _ q102) (hts _ q182) (hts _ q183) rfl (by decide +kernel) ⟨Nat.le_of_ble_eq_true rfl, Nat.le_of_ble_eq_true rfl⟩) ⟨thB_blind, thB_pre hK hP hT⟩ rfl rfl hl.1 rfl (Nat.le_of_ble_eq_true rfl) dJ1_init_6 ⟨Nat.le_of_ble_eq_true rfl, Nat.le_of_ble_eq_true rfl⟩) hS (fun _ h => h) (fun _ h => h) (fun H1 locs1 hB _ _ hS => ?_)
  exact kk_vretW S hr hlk hS hB dJ1_init_9
theorem kJ2_th3 (l : Launch) (D : va_G) (tys : List (ClassId × FieldType)) (N o : Nat) (hN : N ≤ o) : Met l yJ2_init (ws_ yJ2_init cJ2_init 5 none) (rmF 3) (va_Pc [.ref o, .null, .null, .int 0, .int 0] (thB D tys N o 3 [.null, .null, .null, .null, .null, .int 0, .int 0])) (kW none (fun H => va_at D cC (o, .inr (3, [.null, .null, .null, .null, .null, .int 0, .int 0])) H) (fun q => q = o)) 0 0 (fun q => q = o) := by
  refine kk_start (by decide) (Nat.le_of_ble_eq_true rfl) ?_
  intro p e s m below meth c S hr hlk hin hB ls hl
  obtain ⟨hK, hP, hT⟩ := hB
  have hx := S.1
  have hb := S.2.1
  have hown := S.2.2.2.1
  have hts := S.2.2.2.2
  have hS : va_S (fun q => q = o) s.heap s.heap [] := va_S.rf
  have hl : lv_has ls 5 [(0, .ref o), (1, .null), (2, .null), (3, .int 0), (4, .int 0)] := hl
  refine lv_aload_n hx hb dJ2_init_0 rfl (lv_at hl 0 rfl) ?_
  refine lv_aload_nN hx hb dJ2_init_1 rfl (lv_at hl 1 rfl) ?_
  refine lv_aload_nN hx hb dJ2_init_2 rfl (lv_at hl 2 rfl) ?_
  refine lv_iload_n hx hb dJ2_init_3 rfl (lv_at hl 3 rfl) ?_
  refine lv_iload hx hb dJ2_init_4 (lv_at hl 4 rfl) ?_
  refine kk_Wv (W.runI (As := [.null, .null, .int 0, .int 0]) (rest := []) S (kJ1_th3 l D tys N o hN) (cwI 4 hts (lw_meth q181) rfl rfl rfl (hts _ q103) (hts _ q179) (hts _ q180) rfl (by decide +kernel) ⟨Nat.le_of_ble_eq_true rfl, Nat.le_of_ble_eq_true rfl⟩) ⟨thB_blind, thB_pre hK hP hT⟩ rfl rfl hl.1 rfl (Nat.le_of_ble_eq_true rfl) dJ2_init_6 ⟨Nat.le_of_ble_eq_true rfl, Nat.le_of_ble_eq_true rfl⟩) hS (fun _ h => h) (fun _ h => h) (fun H1 locs1 hB _ _ hS => ?_)
  exact kk_vretW S hr hlk hS hB dJ2_init_9
theorem kX1_new (l : Launch) (D : va_G) (tys : List (ClassId × FieldType)) (N o : Nat) (hN : N ≤ o) : Met l yX1_init (ws_ yX1_init cX1_init 1 none) (rmF 4) (va_Pc [.ref o] (thB D tys N o 3 [.null, .null, .null, .null, .null, .int 0, .int 0])) (kW none (fun H => va_at D cC (o, .inr (3, [.null, .null, .null, .null, .null, .int 0, .int 0])) H) (fun q => q = o)) 0 0 (fun q => q = o) := by
  refine kk_start (by decide) (Nat.le_of_ble_eq_true rfl) ?_
  intro p e s m below meth c S hr hlk hin hB ls hl
  obtain ⟨hK, hP, hT⟩ := hB
  have hx := S.1
  have hb := S.2.1
  have hown := S.2.2.2.1
  have hts := S.2.2.2.2
  have hS : va_S (fun q => q = o) s.heap s.heap [] := va_S.rf
  have hl : lv_has ls 1 [(0, .ref o)] := hl
  refine lv_aload_n hx hb dX1_init_0 rfl (lv_at hl 0 rfl) ?_
  refine lv_null hx hb dX1_init_1 ?_
  refine lv_null hx hb dX1_init_2 ?_
  refine lv_iconst (v := 0) hx hb dX1_init_3 (by decide) ?_
  refine lv_iconst (v := 0) hx hb dX1_init_4 (by decide) ?_
  refine kk_Wv (W.runI (As := [.null, .null, .int 0, .int 0]) (rest := []) S (kJ2_th3 l D tys N o hN) (cwI 4 hts (lw_meth q178) rfl rfl rfl (hts _ q104) (hts _ q176) (hts _ q177) rfl (by decide +kernel) ⟨Nat.le_of_ble_eq_true rfl, Nat.le_of_ble_eq_true rfl⟩) ⟨thB_blind, thB_pre hK hP hT⟩ rfl rfl hl.1 rfl (Nat.le_of_ble_eq_true rfl) dX1_init_5 ⟨Nat.le_of_ble_eq_true rfl, Nat.le_of_ble_eq_true rfl⟩) hS (fun _ h => h) (fun _ h => h) (fun H1 locs1 hB _ _ hS => ?_)
  exact kk_vretW S hr hlk hS hB dX1_init_8
set_option maxHeartbeats 4000000 in
theorem kJ0_th4 (l : Launch) (D : va_G) (tys : List (ClassId × FieldType)) (N o : Nat) (hN : N ≤ o) : Met l yJ0_init_2 (ws_ yJ0_init_2 cJ0_init_2 5 none) (rmF 1) (va_Pc [.ref o, .null, .null, .int 0, .int 0] (thB D tys N o 4 [.null, .null, .null, .null, .null, .int 0])) (kW none (fun H => va_at D cC (o, .inr (4, [.null, .null, .null, .null, .null, .int 0])) H) (fun q => q = o)) 0 0 (fun q => q = o) := by
  refine kk_start (by decide) (Nat.le_of_ble_eq_true rfl) ?_
  intro p e s m below meth c S hr hlk hin hB ls hl
  obtain ⟨hK, hP, hT⟩ := hB
  have hx := S.1
  have hb := S.2.1
  have hown := S.2.2.2.1
  have hts := S.2.2.2.2
  have hS : va_S (fun q => q = o) s.heap s.heap [] := va_S.rf
  have hA : ∀ q, q = o → N ≤ q := fun q e => e ▸ hN
  obtain ⟨v1, hv1, hZ1⟩ := zq_v (hT.1.narrow hA)
  obtain ⟨v2, hv2, hZ2⟩ := zq_v (hT.2.narrow hA)
  have hP : va_P D cC [(o, .inr (4, [.null, .null, .null, .null, .null, .int 0]))] s.heap := co_P1 hP
  have hD : va_D (fun q => q = o) [(o, .inr (4, [.null, .null, .null, .null, .null, .int 0]))] := one_D
  have hl : lv_has ls 5 [(0, .ref o), (1, .null), (2, .null), (3, .int 0), (4, .int 0)] := hl
  refine lv_aload_n hx hb dJ0_init_2_0 rfl (lv_at hl 0 rfl) ?_
  refine W.objInit hx hb hown (hts _ q158) (hts _ q131) (hts _ q132) rfl (by rw [S.2.2.1]; exact hl.1) rfl dJ0_init_2_1 (Nat.le_of_ble_eq_true rfl) (Nat.le_of_ble_eq_true rfl) ?_
  refine W.eq (g2 := F0 m 4 ls []) rfl ?_
  refine lv_aload_n hx hb dJ0_init_2_4 rfl (lv_at hl 0 rfl) ?_
  refine lv_aload_n hx hb dJ0_init_2_5 rfl (lv_at hl 0 rfl) ?_
  refine va_put hx hb hts in_X3 tyX3 tyX3_ok nmX3 hown hK hP hD hS 0 rfl rfl 0 (by decide) (hts _ q188) (fun _ h => h) rfl (tyX3_ok 0 (by decide)) (rfl) (rfl) (Nat.le_of_ble_eq_true rfl) dJ0_init_2_6 (fun H locs hP hD hS => ?_)
  have hP : va_P D cC [(o, .inr (4, [.ref o, .null, .null, .null, .null, .int 0]))] H := hP
  have hD : va_D (fun q => q = o) [(o, .inr (4, [.ref o, .null, .null, .null, .null, .int 0]))] := hD
  refine lv_aload_n hx hb dJ0_init_2_9 rfl (lv_at hl 0 rfl) ?_
  refine va_gets hx hb hZ1 hS hown (hts _ q159) (fun _ h => h) dJ0_init_2_10 ?_
  refine va_put hx hb hts in_X3 tyX3 tyX3_ok nmX3 hown hK hP hD hS 0 rfl rfl 1 (by decide) (hts _ q189) (fun _ h => h) rfl (tyX3_ok 1 (by decide)) (by rcases hv1 with rfl | ⟨_, rfl⟩ <;> rfl) (by rcases hv1 with rfl | ⟨_, rfl⟩ <;> rfl) (Nat.le_of_ble_eq_true rfl) dJ0_init_2_13 (fun H locs hP hD hS => ?_)
  have hP : va_P D cC [(o, .inr (4, [.ref o, v1, .null, .null, .null, .int 0]))] H := hP
  have hD : va_D (fun q => q = o) [(o, .inr (4, [.ref o, v1, .null, .null, .null, .int 0]))] := hD
  refine lv_aload_n hx hb dJ0_init_2_16 rfl (lv_at hl 0 rfl) ?_
  refine va_gets hx hb hZ2 hS hown (hts _ q161) (fun _ h => h) dJ0_init_2_17 ?_
  refine va_put hx hb hts in_X3 tyX3 tyX3_ok nmX3 hown hK hP hD hS 0 rfl rfl 2 (by decide) (hts _ q190) (fun _ h => h) rfl (tyX3_ok 2 (by decide)) (by rcases hv2 with rfl | ⟨_, rfl⟩ <;> rfl) (by rcases hv2 with rfl | ⟨_, rfl⟩ <;> rfl) (Nat.le_of_ble_eq_true rfl) dJ0_init_2_20 (fun H locs hP hD hS => ?_)
  have hP : va_P D cC [(o, .inr (4, [.ref o, v1, v2, .null, .null, .int 0]))] H := hP
  have hD : va_D (fun q => q = o) [(o, .inr (4, [.ref o, v1, v2, .null, .null, .int 0]))] := hD
  refine lv_iload hx hb dJ0_init_2_23 (lv_at hl 4 rfl) ?_
  refine lv_if_eq (tgt := 36) hx hb dJ0_init_2_25 (by decide) (fun c_25 => ?_) (fun c_25 => absurd rfl c_25)
  refine lv_aload_n hx hb dJ0_init_2_36 rfl (lv_at hl 0 rfl) ?_
  refine lv_null hx hb dJ0_init_2_37 ?_
  refine va_put hx hb hts in_X3 tyX3 tyX3_ok nmX3 hown hK hP hD hS 0 rfl rfl 1 (by decide) (hts _ q189) (fun _ h => h) rfl (tyX3_ok 1 (by decide)) (rfl) (rfl) (Nat.le_of_ble_eq_true rfl) dJ0_init_2_38 (fun H locs hP hD hS => ?_)
  have hP : va_P D cC [(o, .inr (4, [.ref o, .null, v2, .null, .null, .int 0]))] H := hP
  have hD : va_D (fun q => q = o) [(o, .inr (4, [.ref o, .null, v2, .null, .null, .int 0]))] := hD
  refine lv_aload_n hx hb dJ0_init_2_41 rfl (lv_at hl 0 rfl) ?_
  refine lv_aload_nN hx hb dJ0_init_2_42 rfl (lv_at hl 1 rfl) ?_
  refine va_put hx hb hts in_X3 tyX3 tyX3_ok nmX3 hown hK hP hD hS 0 rfl rfl 3 (by decide) (hts _ q187) (fun _ h => h) rfl (tyX3_ok 3 (by decide)) (rfl) (rfl) (Nat.le_of_ble_eq_true rfl) dJ0_init_2_43 (fun H locs hP hD hS => ?_)
  have hP : va_P D cC [(o, .inr (4, [.ref o, .null, v2, .null, .null, .int 0]))] H := hP
  have hD : va_D (fun q => q = o) [(o, .inr (4, [.ref o, .null, v2, .null, .null, .int 0]))] := hD
  refine lv_aload_n hx hb dJ0_init_2_46 rfl (lv_at hl 0 rfl) ?_
  refine lv_aload_nN hx hb dJ0_init_2_47 rfl (lv_at hl 2 rfl) ?_
  refine va_put hx hb hts in_X3 tyX3 tyX3_ok nmX3 hown hK hP hD hS 0 rfl rfl 0 (by decide) (hts _ q188) (fun _ h => h) rfl (tyX3_ok 0 (by decide)) (rfl) (rfl) (Nat.le_of_ble_eq_true rfl) dJ0_init_2_48 (fun H locs hP hD hS => ?_)
  have hP : va_P D cC [(o, .inr (4, [.null, .null, v2, .null, .null, .int 0]))] H := hP
  have hD : va_D (fun q => q = o) [(o, .inr (4, [.null, .null, v2, .null, .null, .int 0]))] := hD
  refine lv_iload_n hx hb dJ0_init_2_51 rfl (lv_at hl 3 rfl) ?_
  refine lv_if_ne (tgt := 60) hx hb dJ0_init_2_52 (by decide) (fun c_52 => absurd rfl c_52) (fun c_52 => ?_)
  refine lv_aload_n hx hb dJ0_init_2_55 rfl (lv_at hl 0 rfl) ?_
  refine lv_null hx hb dJ0_init_2_56 ?_
  refine va_put hx hb hts in_X3 tyX3 tyX3_ok nmX3 hown hK hP hD hS 0 rfl rfl 2 (by decide) (hts _ q190) (fun _ h => h) rfl (tyX3_ok 2 (by decide)) (rfl) (rfl) (Nat.le_of_ble_eq_true rfl) dJ0_init_2_57 (fun H locs hP hD hS => ?_)
  have hP : va_P D cC [(o, .inr (4, [.null, .null, .null, .null, .null, .int 0]))] H := hP
  have hD : va_D (fun q => q = o) [(o, .inr (4, [.null, .null, .null, .null, .null, .int 0]))] := hD
  exact kk_vretW S hr hlk hS (hP 0 _ rfl) dJ0_init_2_60
theorem kJ1_th4 (l : Launch) (D : va_G) (tys : List (ClassId × FieldType)) (N o : Nat) (hN : N ≤ o) : Met l yJ1_init (ws_ yJ1_init cJ1_init 5 none) (rmF 2) (va_Pc [.ref o, .null, .null, .int 0, .int 0] (thB D tys N o 4 [.null, .null, .null, .null, .null, .int 0])) (kW none (fun H => va_at D cC (o, .inr (4, [.null, .null, .null, .null, .null, .int 0])) H) (fun q => q = o)) 0 0 (fun q => q = o) := by
  refine kk_start (by decide) (Nat.le_of_ble_eq_true rfl) ?_
  intro p e s m below meth c S hr hlk hin hB ls hl
  obtain ⟨hK, hP, hT⟩ := hB
  have hx := S.1
  have hb := S.2.1
  have hown := S.2.2.2.1
  have hts := S.2.2.2.2
  have hS : va_S (fun q => q = o) s.heap s.heap [] := va_S.rf
  have hl : lv_has ls 5 [(0, .ref o), (1, .null), (2, .null), (3, .int 0), (4, .int 0)] := hl
  refine lv_aload_n hx hb dJ1_init_0 rfl (lv_at hl 0 rfl) ?_
  refine lv_aload_nN hx hb dJ1_init_1 rfl (lv_at hl 1 rfl) ?_
  refine lv_aload_nN hx hb dJ1_init_2 rfl (lv_at hl 2 rfl) ?_
  refine lv_iload_n hx hb dJ1_init_3 rfl (lv_at hl 3 rfl) ?_
  refine lv_iload hx hb dJ1_init_4 (lv_at hl 4 rfl) ?_
  refine kk_Wv (W.runI (As := [.null, .null, .int 0, .int 0]) (rest := []) S (kJ0_th4 l D tys N o hN) (cwI 4 hts (lw_meth q184) rfl rfl rfl (hts _ q102) (hts _ q182) (hts _ q183) rfl (by decide +kernel) ⟨Nat.le_of_ble_eq_true rfl, Nat.le_of_ble_eq_true rfl⟩) ⟨thB_blind, thB_pre hK hP hT⟩ rfl rfl hl.1 rfl (Nat.le_of_ble_eq_true rfl) dJ1_init_6 ⟨Nat.le_of_ble_eq_true rfl, Nat.le_of_ble_eq_true rfl⟩) hS (fun _ h => h) (fun _ h => h) (fun H1 locs1 hB _ _ hS => ?_)
  exact kk_vretW S hr hlk hS hB dJ1_init_9
theorem kJ2_th4 (l : Launch) (D : va_G) (tys : List (ClassId × FieldType)) (N o : Nat) (hN : N ≤ o) : Met l yJ2_init (ws_ yJ2_init cJ2_init 5 none) (rmF 3) (va_Pc [.ref o, .null, .null, .int 0, .int 0] (thB D tys N o 4 [.null, .null, .null, .null, .null, .int 0])) (kW none (fun H => va_at D cC (o, .inr (4, [.null, .null, .null, .null, .null, .int 0])) H) (fun q => q = o)) 0 0 (fun q => q = o) := by
  refine kk_start (by decide) (Nat.le_of_ble_eq_true rfl) ?_
  intro p e s m below meth c S hr hlk hin hB ls hl
  obtain ⟨hK, hP, hT⟩ := hB
  have hx := S.1
  have hb := S.2.1
  have hown := S.2.2.2.1
  have hts := S.2.2.2.2
  have hS : va_S (fun q => q = o) s.heap s.heap [] := va_S.rf
  have hl : lv_has ls 5 [(0, .ref o), (1, .null), (2, .null), (3, .int 0), (4, .int 0)] := hl
  refine lv_aload_n hx hb dJ2_init_0 rfl (lv_at hl 0 rfl) ?_
  refine lv_aload_nN hx hb dJ2_init_1 rfl (lv_at hl 1 rfl) ?_
  refine lv_aload_nN hx hb dJ2_init_2 rfl (lv_at hl 2 rfl) ?_
  refine lv_iload_n hx hb dJ2_init_3 rfl (lv_at hl 3 rfl) ?_
  refine lv_iload hx hb dJ2_init_4 (lv_at hl 4 rfl) ?_
  refine kk_Wv (W.runI (As := [.null, .null, .int 0, .int 0]) (rest := []) S (kJ1_th4 l D tys N o hN) (cwI 4 hts (lw_meth q181) rfl rfl rfl (hts _ q103) (hts _ q179) (hts _ q180) rfl (by decide +kernel) ⟨Nat.le_of_ble_eq_true rfl, Nat.le_of_ble_eq_true rfl⟩) ⟨thB_blind, thB_pre hK hP hT⟩ rfl rfl hl.1 rfl (Nat.le_of_ble_eq_true rfl) dJ2_init_6 ⟨Nat.le_of_ble_eq_true rfl, Nat.le_of_ble_eq_true rfl⟩) hS (fun _ h => h) (fun _ h => h) (fun H1 locs1 hB _ _ hS => ?_)
  exact kk_vretW S hr hlk hS hB dJ2_init_9
theorem kX3_new (l : Launch) (D : va_G) (tys : List (ClassId × FieldType)) (N o : Nat) (hN : N ≤ o) : Met l yX3_init (ws_ yX3_init cX3_init 1 none) (rmF 4) (va_Pc [.ref o] (thB D tys N o 4 [.null, .null, .null, .null, .null, .int 0])) (kW none (fun H => va_at D cC (o, .inr (4, [.null, .null, .null, .null, .null, .int 0])) H) (fun q => q = o)) 0 0 (fun q => q = o) := by
  refine kk_start (by decide) (Nat.le_of_ble_eq_true rfl) ?_
  intro p e s m below meth c S hr hlk hin hB ls hl
  obtain ⟨hK, hP, hT⟩ := hB
  have hx := S.1
  have hb := S.2.1
  have hown := S.2.2.2.1
  have hts := S.2.2.2.2
  have hS : va_S (fun q => q = o) s.heap s.heap [] := va_S.rf
  have hl : lv_has ls 1 [(0, .ref o)] := hl
  refine lv_aload_n hx hb dX3_init_0 rfl (lv_at hl 0 rfl) ?_
  refine lv_null hx hb dX3_init_1 ?_
  refine lv_null hx hb dX3_init_2 ?_
  refine lv_iconst (v := 0) hx hb dX3_init_3 (by decide) ?_
  refine lv_iconst (v := 0) hx hb dX3_init_4 (by decide) ?_
  refine kk_Wv (W.runI (As := [.null, .null, .int 0, .int 0]) (rest := []) S (kJ2_th4 l D tys N o hN) (cwI 4 hts (lw_meth q178) rfl rfl rfl (hts _ q104) (hts _ q219) (hts _ q177) rfl (by decide +kernel) ⟨Nat.le_of_ble_eq_true rfl, Nat.le_of_ble_eq_true rfl⟩) ⟨thB_blind, thB_pre hK hP hT⟩ rfl rfl hl.1 rfl (Nat.le_of_ble_eq_true rfl) dX3_init_5 ⟨Nat.le_of_ble_eq_true rfl, Nat.le_of_ble_eq_true rfl⟩) hS (fun _ h => h) (fun _ h => h) (fun H1 locs1 hB _ _ hS => ?_)
  exact kk_vretW S hr hlk hS hB dX3_init_8

theorem LG.cg {D : va_G} {A : Nat → Prop} {G G' : Lg} {H : Heap} (h : LG D A G H) (e : ∀ i, G' i = G i) : LG D A G' H := by
  have : G' = G := funext e
  rw [this]; exact h
theorem LG.one {D : va_G} {A : Nat → Prop} {H : Heap} {c a : Nat} {e : va_E} (h : va_at D cC (a, e) H) (hA : A a) : LG D A (gs (fun _ => none) c (a, e)) H := by
  refine ⟨fun i b x hi => ?_, fun i i' b x x' hi hi' => ?_⟩
  · unfold gs at hi
    by_cases hc : i = c
    · rw [if_pos hc] at hi; cases hi; exact ⟨h, hA⟩
    · rw [if_neg hc] at hi; cases hi
  · unfold gs at hi hi'
    by_cases hc : i = c
    · by_cases hc' : i' = c
      · rw [hc, hc']
      · rw [if_neg hc'] at hi'; cases hi'
    · rw [if_neg hc] at hi; cases hi
abbrev rdf_0 : List Value := [.null, .null, .null, .int 0, .int 0, .int 0, .int 0, .int 0]
def rdG (D : va_G) (cs : Nat → ClassId) (o aw at_ : Nat) (ad : Nat → Nat) : Lg := fun i => if i = 1 then some (o, .inr (2, [.ref aw, .ref at_, .ref (ad 0), .int 0, .int 0, .int 0, .int 0, .int 0])) else if 400 ≤ i ∧ i < 412 then some (ad (i - 400), wE (D, ad, cs) r_0 (i - 400)) else if i = 3 then some (aw, .inr (4, cF3)) else if i = 8 then some (at_, .inl (cs 2, 120, .inl (fun _ => 0))) else none
set_option maxHeartbeats 4000000 in
set_option maxRecDepth 100000 in
theorem k2_init (l : Launch) (D : va_G) (cs : Nat → ClassId) (N o sz : Nat) (hN : N ≤ sz) : Met l yX2_init (ws_ yX2_init cX2_init 1 none) { frames := 5, cells := 14, slots := 219, locals := 190 } (va_Pc [.ref o] (fun U => U.heap.size = sz ∧ va_K D cC [(cs 0, .int), (cs 1, .array .int), (cs 2, .byte), (cs 3, .object RX5), (cs 4, .short)] U ∧ ma_AO U ∧ thS N U U.heap ∧ va_at D cC (o, .inr (2, rdf_0)) U.heap)) (kW none (fun H => ∃ aw at_ ad, LG D (fun q => q = o ∨ sz ≤ q) (rdG D cs o aw at_ ad) H) (fun q => q = o ∨ sz ≤ q)) 14 219 (fun q => q = o ∨ sz ≤ q) := by
  refine kk_start (by decide) (Nat.le_of_ble_eq_true rfl) ?_
  intro p e s m below meth c S hr hlk hin hB ls hl
  obtain ⟨hsz, hK, hO, hT, hP⟩ := hB
  subst hsz
  have hx := S.1
  have hb := S.2.1
  have hin := hin rfl
  have hown : s.vm.findClass RX2 = some m.cls := S.2.2.2.1
  have hts := S.2.2.2.2
  generalize hAe : (fun q => q = o ∨ s.heap.size ≤ q) = A
  have hA : ∀ q, s.heap.size ≤ q → A q := fun q h => by rw [← hAe]; exact Or.inr h
  have hAo : A o := by rw [← hAe]; exact Or.inl rfl
  have hol : o < s.heap.size := hP.lt
  have hS : va_S A s.heap s.heap [] := va_S.rf
  have hG : LG D A (gs (fun _ => none) 1 (o, .inr (2, rdf_0))) s.heap := LG.one hP hAo
  have hl : lv_has ls 1 [(0, .ref o)] := hl
  refine lv_aload_n hx hb dX2_init_0 rfl (lv_at hl 0 rfl) ?_
  refine W.objInit hx hb hown (hts _ q206) (hts _ q131) (hts _ q132) rfl (by rw [S.2.2.1]; exact hl.1) rfl dX2_init_1 (Nat.le_of_ble_eq_true rfl) (Nat.le_of_ble_eq_true rfl) ?_
  refine W.eq (g2 := F0 m 4 ls []) rfl ?_
  refine lv_aload_n hx hb dX2_init_4 rfl (lv_at hl 0 rfl) ?_
  refine kn_newc (ci := 4) (fs := cF3) hx hb hts in_X3 tyX3 tyX3_ok hown (hts _ q207) (hts _ q208) (hts _ q107) hK rfl (by decide) (Nat.le_of_ble_eq_true rfl) (Nat.le_of_ble_eq_true rfl) dX2_init_5 (fun H1 hw z1 o1 => ?_)
  have hS1 : va_S A s.heap H1 [] := ⟨by omega, fun q h1 h2 => o1 q h1, fun q hq => by cases hq⟩
  have hG1 := hG.add (c := 3) rfl (Nat.le_refl _) (hA _ (Nat.le_refl _)) hw o1
  have hT1 : thS N s H1 := hT.kept (fun a h1 _ => o1 a h1)
  refine lv_dup hx hb dX2_init_8 rfl ?_
  refine kk_Wv (W.runI (As := []) (rest := [.ref s.heap.size, .ref o]) S (kX3_new l D _ N s.heap.size hN) (cwI 0 hts (lw_meth q218) rfl rfl rfl (hts _ q107) (hts _ q216) (hts _ q217) rfl (by decide +kernel) ⟨Nat.le_of_ble_eq_true rfl, Nat.le_of_ble_eq_true rfl⟩) ⟨thB_blind, thB_pre hK hw hT1⟩ rfl rfl hl.1 rfl (Nat.le_of_ble_eq_true rfl) dX2_init_9 ⟨Nat.le_of_ble_eq_true rfl, Nat.le_of_ble_eq_true rfl⟩) hS1 (fun q h => hA q (Nat.le_of_eq (Eq.symm h))) (fun q h => hA q (Nat.le_of_eq (Eq.symm h))) (fun H2 locs2 hw2 z2 o2 hS2 => ?_)
  have hG2 := hG1.set (c := 3) rfl hw2 (fun q h1 h2 => o2 q h1 h2)
  refine co_putF (ci := 2) hx hb hts in_X2 tyX2 tyX2_ok nmX2 hown hK (hG2.1 1 o (.inr (2, rdf_0)) rfl).1 hS2 hAo rfl 0 (by decide) (hts _ q271) rfl rfl hin rfl rfl rfl (Nat.le_of_ble_eq_true rfl) dX2_init_12 (fun H3 locs3 hp3 o3 z3 hS3 => ?_)
  have hG3 := hG2.set (c := 1) rfl hp3 (fun q _ h => o3 q h)
  refine lv_aload_n hx hb dX2_init_15 rfl (lv_at hl 0 rfl) ?_
  refine lv_bipush (v := 120) hx hb dX2_init_16 (by decide) ?_
  refine va_newaK (atype := .byte) hx hb (hts _ q269) rfl dX2_init_18 rfl (by decide) rfl (by decide) (Nat.le_of_ble_eq_true rfl) (Nat.le_of_ble_eq_true rfl) rfl fun H4 cA0 e4 z4 o4 hAr hNm => ?_
  have hcl : cA0 = cs 2 := Option.some.inj (hNm.symm.trans (hK.2 2 _ rfl).2)
  subst hcl
  have hS4 : va_S A s.heap H4 locs3 := ⟨Nat.le_trans hS3.1 (by omega), fun q h1 h2 => (o4 q (Nat.lt_of_lt_of_le h1 hS3.1)).trans (hS3.2.1 q h1 h2), hS3.2.2⟩
  have ht4 : va_at D cC (H3.size, .inl (cs 2, 120, .inl (fun _ => 0))) H4 := e4
  have hG4 := hG3.add (c := 8) rfl (Nat.le_refl _) (hA _ hS3.1) ht4 o4
  refine W.eq (g2 := F0 m 20 ls [.ref H3.size, .ref o]) rfl ?_
  refine co_putF (ci := 2) hx hb hts in_X2 tyX2 tyX2_ok nmX2 hown hK (hG4.1 1 o (.inr (2, rdf_0.set 0 (.ref s.heap.size))) rfl).1 hS4 hAo rfl 1 (by decide) (hts _ q272) rfl rfl hin rfl rfl rfl (Nat.le_of_ble_eq_true rfl) dX2_init_20 (fun H5 locs5 hp5 o5 z5 hS5 => ?_)
  have hG5 := hG4.set (c := 1) rfl hp5 (fun q _ h => o5 q h)
  refine lv_aload_n hx hb dX2_init_23 rfl (lv_at hl 0 rfl) ?_
  refine kn_newc (ci := 1) (fs := w_0) hx hb hts in_X4 tyX4 tyX4_ok hown (hts _ q222) (hts _ q223) (hts _ q108) hK rfl (by decide) (Nat.le_of_ble_eq_true rfl) (Nat.le_of_ble_eq_true rfl) dX2_init_24 (fun H6 hw6 z6 o6 => ?_)
  have hS6 : va_S A s.heap H6 locs5 := ⟨Nat.le_trans hS5.1 (by omega), fun q h1 h2 => (o6 q (Nat.lt_of_lt_of_le h1 hS5.1)).trans (hS5.2.1 q h1 h2), hS5.2.2⟩
  have hG6 := hG5.add (c := 400) rfl (Nat.le_refl _) (hA _ hS5.1) hw6 o6
  refine lv_dup hx hb dX2_init_27 rfl ?_
  refine kk_WvA (W.runI (As := []) (rest := [.ref H5.size, .ref o]) S (k4_init l D cs H5.size H6.size) (cwI 0 hts (lw_meth q226) rfl rfl rfl (hts _ q108) (hts _ q224) (hts _ q225) rfl (by decide +kernel) ⟨Nat.le_of_ble_eq_true rfl, Nat.le_of_ble_eq_true rfl⟩) ⟨fun a U g mk h => ⟨h.1, h.2.1, va_K.moved (u := U) (U := U.calling g mk a) (Vm.Alike.refl U.vm) h.2.2.1, ma_AO.moved (u := U) (U := U.calling g mk a) (Vm.Alike.refl U.vm) h.2.2.2.1, h.2.2.2.2⟩, fun U hU hW => ⟨rfl, by rw [hU], va_K.moved hW.alike hK, hO.moved hW.alike, by rw [hU]; exact hw6⟩⟩ rfl rfl hl.1 rfl (Nat.le_of_ble_eq_true rfl) dX2_init_28 ⟨Nat.le_of_ble_eq_true rfl, Nat.le_of_ble_eq_true rfl⟩) hS6 (fun q h => hA q (h.elim (fun z => z ▸ hS5.1) (fun z => Nat.le_trans hS6.1 z))) (fun q h => hA q (h.elim (fun z => z ▸ hS5.1) (fun z => Nat.le_trans hS6.1 z))) (fun H7 locs7 hw7 z7 o7 hS7 => ?_)
  obtain ⟨ad, h0, hge, hinj, hww⟩ := hw7
  have hG7 := hG6.world (b := 400) (ad := ad) (cs := cs) (e := .inr (1, w_0)) (by rw [h0]; rfl) (fun j h1 h2 => by simp only [gs]; repeat rw [if_neg (by omega)]) hge (fun j h1 h2 => hA _ (Nat.le_trans hS6.1 (hge j h1 h2))) hinj hww (fun x h1 h2 => o7 x h1 (fun z => z.elim (fun w => h2 (w.trans h0.symm)) (fun w => absurd h1 (Nat.not_lt.mpr w))))
  refine co_putF (ci := 2) hx hb hts in_X2 tyX2 tyX2_ok nmX2 hown hK (hG7.1 1 o (.inr (2, (rdf_0.set 0 (.ref s.heap.size)).set 1 (.ref H3.size))) rfl).1 hS7 hAo rfl 2 (by decide) (hts _ q274) rfl rfl hin rfl rfl rfl (Nat.le_of_ble_eq_true rfl) dX2_init_31 (fun H8 locs8 hp8 o8 z8 hS8 => ?_)
  have hG8 := hG7.set (c := 1) rfl hp8 (fun q _ h => o8 q h)
  refine kk_vretW S hr hlk hS8 ⟨s.heap.size, H3.size, ad, ?_⟩ dX2_init_34
  refine (show LG D A _ H8 from hG8).cg (fun i => ?_)
  unfold rdG
  by_cases h1 : i = 1
  · rw [if_pos h1]; subst h1; rw [h0]; rfl
  · rw [if_neg h1]
    by_cases h4 : 400 ≤ i ∧ i < 412
    · rw [if_pos h4]
      simp only [gs, gw]
      rw [if_neg h1, if_pos (by omega)]
    · rw [if_neg h4]
      have hb : ¬ (400 ≤ i ∧ i < 400 + 12) := by omega
      have h40 : ¬ i = 400 := by omega
      by_cases h3 : i = 3
      · subst h3; rfl
      · by_cases h8 : i = 8
        · subst h8; rfl
        · simp only [gs, gw, h1, h3, h8, hb, h40, if_false]

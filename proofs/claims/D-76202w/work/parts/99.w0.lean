theorem LG.one {D : va_G} {A : Nat → Prop} {H : Heap} {c a : Nat} {e : va_E} (h : va_at D cC (a, e) H) (hA : A a) : LG D A (gs (fun _ => none) c (a, e)) H := by
  refine ⟨fun i b x hi => ?_, fun i i' b x x' hi hi' => ?_⟩
  · unfold gs at hi
    by_cases hc : i = c
    · rw [if_pos hc] at hi; cases hi; exact ⟨h, hA⟩
    · rw [if_neg hc] at hi; cases hi
  · unfold gs at hi hi'
    by_cases hc : i = c
    · by_cases hc' : i' = c
      · rw [hc, hc']
      · rw [if_neg hc'] at hi'; cases hi'
    · rw [if_neg hc] at hi; cases hi
abbrev rdf_0 : List Value := [.null, .null, .null, .int 0, .int 0, .int 0, .int 0, .int 0]
def rdG (D : va_G) (cs : Nat → ClassId) (o aw at_ : Nat) (ad : Nat → Nat) : Lg := fun i => if i = 1 then some (o, .inr (2, [.ref aw, .ref at_, .ref (ad 0), .int 0, .int 0, .int 0, .int 0, .int 0])) else if 400 ≤ i ∧ i < 412 then some (ad (i - 400), wE (D, ad, cs) r_0 (i - 400)) else if i = 3 then some (aw, .inr (4, cF3)) else if i = 8 then some (at_, .inl (cs 2, 120, .inl (fun _ => 0))) else none
set_option maxHeartbeats 4000000 in
set_option maxRecDepth 100000 in
theorem k2_init (l : Launch) (D : va_G) (cs : Nat → ClassId) (N o sz : Nat) (hN : N ≤ sz) : Met l yX2_init (ws_ yX2_init cX2_init 1 none) { frames := 5, cells := 14, slots := 219, locals := 190 } (va_Pc [.ref o] (fun U => U.heap.size = sz ∧ va_K D cC [(cs 0, .int), (cs 1, .array .int), (cs 2, .byte), (cs 3, .object RX5), (cs 4, .short)] U ∧ ma_AO U ∧ thS N U U.heap ∧ va_at D cC (o, .inr (2, rdf_0)) U.heap)) (kW none (fun H => ∃ aw at_ ad, LG D (fun q => q = o ∨ sz ≤ q) (rdG D cs o aw at_ ad) H) (fun q => q = o ∨ sz ≤ q)) 14 219 (fun q => q = o ∨ sz ≤ q) := by
  refine kk_start (by decide) (Nat.le_of_ble_eq_true rfl) ?_
  intro p e s m below meth c S hr hlk hin hB ls hl
  obtain ⟨hsz, hK, hO, hT, hP⟩ := hB
  subst hsz
  have hx := S.1
  have hb := S.2.1
  have hin := hin rfl
  have hown : s.vm.findClass RX2 = some m.cls := S.2.2.2.1
  have hts := S.2.2.2.2
  generalize hAe : (fun q => q = o ∨ s.heap.size ≤ q) = A
  have hA : ∀ q, s.heap.size ≤ q → A q := fun q h => by rw [← hAe]; exact Or.inr h
  have hAo : A o := by rw [← hAe]; exact Or.inl rfl
  have hol : o < s.heap.size := hP.lt
  have hS : va_S A s.heap s.heap [] := va_S.rf
  have hG : LG D A (gs (fun _ => none) 1 (o, .inr (2, rdf_0))) s.heap := LG.one hP hAo
  have hl : lv_has ls 1 [(0, .ref o)] := hl
  refine lv_aload_n hx hb dX2_init_0 rfl (lv_at hl 0 rfl) ?_
  refine W.objInit hx hb hown (hts _ q206) (hts _ q131) (hts _ q132) rfl (by rw [S.2.2.1]; exact hl.1) rfl dX2_init_1 (Nat.le_of_ble_eq_true rfl) (Nat.le_of_ble_eq_true rfl) ?_
  refine W.eq (g2 := F0 m 4 ls []) rfl ?_
  refine lv_aload_n hx hb dX2_init_4 rfl (lv_at hl 0 rfl) ?_
  refine kn_newc (ci := 4) (fs := cF3) hx hb hts in_X3 tyX3 tyX3_ok hown (hts _ q207) (hts _ q208) (hts _ q107) hK rfl (by decide) (Nat.le_of_ble_eq_true rfl) (Nat.le_of_ble_eq_true rfl) dX2_init_5 (fun H1 hw z1 o1 => ?_)
  have hS1 : va_S A s.heap H1 [] := ⟨by omega, fun q h1 h2 => o1 q h1, fun q hq => by cases hq⟩
  have hG1 := hG.add (c := 3) rfl (Nat.le_refl _) (hA _ (Nat.le_refl _)) hw o1
  have hT1 : thS N s H1 := hT.kept (fun a h1 _ => o1 a h1)
  refine lv_dup hx hb dX2_init_8 rfl ?_
  refine kk_Wv (W.runI (As := []) (rest := [.ref s.heap.size, .ref o]) S (kX3_new l D _ N s.heap.size hN) (cwI 0 hts (lw_meth q218) rfl rfl rfl (hts _ q107) (hts _ q216) (hts _ q217) rfl (by decide +kernel) ⟨Nat.le_of_ble_eq_true rfl, Nat.le_of_ble_eq_true rfl⟩) ⟨thB_blind, thB_pre hK hw hT1⟩ rfl rfl hl.1 rfl (Nat.le_of_ble_eq_true rfl) dX2_init_9 ⟨Nat.le_of_ble_eq_true rfl, Nat.le_of_ble_eq_true rfl⟩) hS1 (fun q h => hA q (Nat.le_of_eq (Eq.symm h))) (fun q h => hA q (Nat.le_of_eq (Eq.symm h))) (fun H2 locs2 hw2 z2 o2 hS2 => ?_)
  have hG2 := hG1.set (c := 3) rfl hw2 (fun q h1 h2 => o2 q h1 h2)
  sorry

theorem refs_cg {cI : ClassId} {n : Nat} {f g : Nat → Option Nat} (h : ∀ j, j < n → f j = g j) : vp_cell cI (n, .inr (.inr (.inr (.inr f)))) = vp_cell cI (n, .inr (.inr (.inr (.inr g)))) := by
  rw [vp_cell_q, vp_cell_q]
  exact arrV_cg (fun j hj => by rw [h j hj])
section KN
variable {p : Program} {l : Launch} {e : Env} {R : Room} {s : State} {m : MethodId} {args : Array Value} {below : List Frame} {meth : Method} {c : Code} {H : Heap} {locs : List Loc} {cells slots : Nat} {Q : State → Prop}
variable {cc : ByteArray} {pc nL : Nat} {ls : Array Slot} {rest st0 : List Value} {own : String} {A : Nat → Prop} {H0 : Heap} {D : va_G} {cl : List vw_C} {ws : va_W} {cI : ClassId} {tys : List (ClassId × FieldType)}
theorem kn_newi2 (S : CallFix p m c cc nL s args lw_all own) (hK : va_K D cl tys s) (h0 : tys[0]? = some (cI, .int)) (hP : va_P D cl ws H) (hD : va_D A ws) (hS : va_S A H0 H locs) (hA : ∀ q, H0.size ≤ q → A q)
    {n : Int32} (N' : Nat) (hn : ¬ n < 0) (hN : n.toNatClampNeg = N') (hbytes : N' * 4 ≤ 536870912) (hcells : cells + 1 ≤ R.cells) (hslots : slots + N' ≤ R.slots) (hdg : decode cc pc = .ok (.newarray .int, 2))
    (kk : ∀ (q : Nat) (H1 : Heap), va_P D cl (ws ++ [(q, .inl (cI, N', .inl (fun _ => 0)))]) H1 → va_D A (ws ++ [(q, .inl (cI, N', .inl (fun _ => 0)))]) → va_S A H0 H1 locs →
      W p l e R s m args below meth c H1 locs (cells + 1) (slots + N') Q (F0 m (pc + 2) ls (.ref q :: rest))) : W p l e R s m args below meth c H locs cells slots Q (F0 m pc ls (.int n :: rest)) := by
  refine va_newa (atype := .int) S.1 S.2.1 (S.2.2.2.2 _ q270) rfl hK hP hD hS hA (a0 := (N', .inl (fun _ => 0))) (fun cA => vp_cell_i cA N' _) hn hN hbytes hcells hslots hdg fun q cA H1 hK1 hP1 hD1 hS1 => ?_
  have h1 := (hK.2 0 _ h0).2
  have h2 := (hK1.2 tys.length (cA, newarray.typeOf .int) (by simp)).2
  have h3 : cI = cA := Option.some.inj (h1.symm.trans h2)
  subst h3
  exact kk q H1 hP1 hD1 hS1
end KN
abbrev w_0 : List Value := [.null, .null, .int 0, .int 0, .null, .int 0, .int 0, .null]
/-- behind a World's constructor: its cells, new, as they start -/
def wNew (D : va_G) (cs : Nat → ClassId) (o sz : Nat) (H : Heap) : Prop := ∃ ad : Nat → Nat, ad 0 = o ∧ (∀ j, 0 < j → j < 12 → sz ≤ ad j) ∧ (∀ i j, i < 12 → j < 12 → ad i = ad j → i = j) ∧ wW (D, ad, cs) r_0 H
set_option maxHeartbeats 4000000 in
set_option maxRecDepth 100000 in
theorem k4_init (l : Launch) (D : va_G) (cs : Nat → ClassId) (o sz : Nat) : Met l yX4_init (ws_ yX4_init cX4_init 2 none) { frames := 1, cells := 11, slots := 85, locals := 38 } (va_Pc [.ref o] (fun U => U.heap.size = sz ∧ va_K D cC [(cs 0, .int), (cs 1, .array .int), (cs 2, .byte), (cs 3, .object RX5), (cs 4, .short)] U ∧ ma_AO U ∧ va_at D cC (o, .inr (1, w_0)) U.heap)) (kW none (wNew D cs o sz) (fun q => q = o ∨ sz ≤ q)) 11 85 (fun q => q = o ∨ sz ≤ q) := by
  refine kk_start (by decide) (Nat.le_of_ble_eq_true rfl) ?_
  intro p e s m below meth c S hr hlk hin hB ls hl
  obtain ⟨hsz, hK, hO, hP⟩ := hB
  subst hsz
  have hx := S.1
  have hb := S.2.1
  have hin := hin rfl
  have hown : s.vm.findClass RX4 = some m.cls := S.2.2.2.1
  have hts := S.2.2.2.2
  generalize hAe : (fun q => q = o ∨ s.heap.size ≤ q) = A
  have hA : ∀ q, s.heap.size ≤ q → A q := fun q h => by rw [← hAe]; exact Or.inr h
  have hol : o < s.heap.size := hP.lt
  have hS : va_S A s.heap s.heap [] := va_S.rf
  have hP : va_P D cC [(o, .inr (1, w_0))] s.heap := co_P1 hP
  have hD : va_D A [(o, .inr (1, w_0))] := ⟨fun i j p q h1 h2 _ => by
      have := (List.getElem?_eq_some_iff.mp h1).1
      have := (List.getElem?_eq_some_iff.mp h2).1
      simp at *; omega, fun k q hq => by
      match k, hq with
      | 0, hq => cases hq; rw [← hAe]; exact Or.inl rfl
      | k + 1, hq => simp at hq⟩
  have hl : lv_has ls 2 [(0, .ref o)] := hl
  refine lv_aload_n hx hb dX4_init_0 rfl (lv_at hl 0 rfl) ?_
  refine W.objInit hx hb hown (hts _ q227) (hts _ q131) (hts _ q132) rfl (by rw [S.2.2.1]; exact hl.1) rfl dX4_init_1 (Nat.le_of_ble_eq_true rfl) (Nat.le_of_ble_eq_true rfl) ?_
  refine W.eq (g2 := F0 m 4 ls []) rfl ?_
  refine lv_aload_n hx hb dX4_init_4 rfl (lv_at hl 0 rfl) ?_
  refine lv_bipush (v := 6) hx hb dX4_init_5 (by decide) ?_
  refine kn_newi2 (cI := cs 0) S hK rfl hP hD hS hA 6 (by decide) rfl (by decide) (Nat.le_of_ble_eq_true rfl) (Nat.le_of_ble_eq_true rfl) dX4_init_7 (fun q1 H hP hD hS => ?_)
  have hP : va_P D cC [(o, .inr (1, [.null, .null, .int 0, .int 0, .null, .int 0, .int 0, .null])), (q1, .inl (cs 0, 6, .inl (fun _ => 0)))] H := hP
  have hD : va_D A [(o, .inr (1, [.null, .null, .int 0, .int 0, .null, .int 0, .int 0, .null])), (q1, .inl (cs 0, 6, .inl (fun _ => 0)))] := hD
  refine va_putF hx hb hts in_X4 tyX4 tyX4_ok nmX4 hown hK hP hD hS 0 rfl rfl 0 (by decide) (hts _ q230) (fun _ h => h) rfl hin rfl (tyX4_ok 0 (by decide)) rfl rfl (Nat.le_of_ble_eq_true rfl) dX4_init_9 (fun H locs hP hD hS => ?_)
  have hP : va_P D cC [(o, .inr (1, [.ref q1, .null, .int 0, .int 0, .null, .int 0, .int 0, .null])), (q1, .inl (cs 0, 6, .inl (fun _ => 0)))] H := hP
  have hD : va_D A [(o, .inr (1, [.ref q1, .null, .int 0, .int 0, .null, .int 0, .int 0, .null])), (q1, .inl (cs 0, 6, .inl (fun _ => 0)))] := hD
  refine lv_aload_n hx hb dX4_init_12 rfl (lv_at hl 0 rfl) ?_
  refine lv_bipush (v := 6) hx hb dX4_init_13 (by decide) ?_
  refine kn_newi2 (cI := cs 0) S hK rfl hP hD hS hA 6 (by decide) rfl (by decide) (Nat.le_of_ble_eq_true rfl) (Nat.le_of_ble_eq_true rfl) dX4_init_15 (fun q2 H hP hD hS => ?_)
  have hP : va_P D cC [(o, .inr (1, [.ref q1, .null, .int 0, .int 0, .null, .int 0, .int 0, .null])), (q1, .inl (cs 0, 6, .inl (fun _ => 0))), (q2, .inl (cs 0, 6, .inl (fun _ => 0)))] H := hP
  have hD : va_D A [(o, .inr (1, [.ref q1, .null, .int 0, .int 0, .null, .int 0, .int 0, .null])), (q1, .inl (cs 0, 6, .inl (fun _ => 0))), (q2, .inl (cs 0, 6, .inl (fun _ => 0)))] := hD
  refine va_putF hx hb hts in_X4 tyX4 tyX4_ok nmX4 hown hK hP hD hS 0 rfl rfl 1 (by decide) (hts _ q234) (fun _ h => h) rfl hin rfl (tyX4_ok 1 (by decide)) rfl rfl (Nat.le_of_ble_eq_true rfl) dX4_init_17 (fun H locs hP hD hS => ?_)
  have hP : va_P D cC [(o, .inr (1, [.ref q1, .ref q2, .int 0, .int 0, .null, .int 0, .int 0, .null])), (q1, .inl (cs 0, 6, .inl (fun _ => 0))), (q2, .inl (cs 0, 6, .inl (fun _ => 0)))] H := hP
  have hD : va_D A [(o, .inr (1, [.ref q1, .ref q2, .int 0, .int 0, .null, .int 0, .int 0, .null])), (q1, .inl (cs 0, 6, .inl (fun _ => 0))), (q2, .inl (cs 0, 6, .inl (fun _ => 0)))] := hD
  refine lv_aload_n hx hb dX4_init_20 rfl (lv_at hl 0 rfl) ?_
  refine lv_bipush (v := 7) hx hb dX4_init_21 (by decide) ?_
  refine lv_bipush (v := 8) hx hb dX4_init_23 (by decide) ?_
  refine kn_multi (c1 := cs 1) (cI := cs 0) S hK rfl rfl hP hD hS hA (Nat.le_of_ble_eq_true rfl) (Nat.le_of_ble_eq_true rfl) hO dX4_init_25 (fun h H locs hP hD hS => ?_)
  have hP : va_P D cC [(o, .inr (1, [.ref q1, .ref q2, .int 0, .int 0, .null, .int 0, .int 0, .null])), (q1, .inl (cs 0, 6, .inl (fun _ => 0))), (q2, .inl (cs 0, 6, .inl (fun _ => 0))), (h, .inl (cs 1, 7, .inr (.inr (.inr (.inr (fun k => some (h + 1 + k))))))), (h + 1, .inl (cs 0, 8, .inl (fun _ => 0))), (h + 2, .inl (cs 0, 8, .inl (fun _ => 0))), (h + 3, .inl (cs 0, 8, .inl (fun _ => 0))), (h + 4, .inl (cs 0, 8, .inl (fun _ => 0))), (h + 5, .inl (cs 0, 8, .inl (fun _ => 0))), (h + 6, .inl (cs 0, 8, .inl (fun _ => 0))), (h + 7, .inl (cs 0, 8, .inl (fun _ => 0)))] H := hP
  have hD : va_D A [(o, .inr (1, [.ref q1, .ref q2, .int 0, .int 0, .null, .int 0, .int 0, .null])), (q1, .inl (cs 0, 6, .inl (fun _ => 0))), (q2, .inl (cs 0, 6, .inl (fun _ => 0))), (h, .inl (cs 1, 7, .inr (.inr (.inr (.inr (fun k => some (h + 1 + k))))))), (h + 1, .inl (cs 0, 8, .inl (fun _ => 0))), (h + 2, .inl (cs 0, 8, .inl (fun _ => 0))), (h + 3, .inl (cs 0, 8, .inl (fun _ => 0))), (h + 4, .inl (cs 0, 8, .inl (fun _ => 0))), (h + 5, .inl (cs 0, 8, .inl (fun _ => 0))), (h + 6, .inl (cs 0, 8, .inl (fun _ => 0))), (h + 7, .inl (cs 0, 8, .inl (fun _ => 0)))] := hD
  refine va_putF hx hb hts in_X4 tyX4 tyX4_ok nmX4 hown hK hP hD hS 0 rfl rfl 4 (by decide) (hts _ q242) (fun _ h => h) rfl hin rfl (tyX4_ok 4 (by decide)) rfl rfl (Nat.le_of_ble_eq_true rfl) dX4_init_29 (fun H locs hP hD hS => ?_)
  have hP : va_P D cC [(o, .inr (1, [.ref q1, .ref q2, .int 0, .int 0, .ref h, .int 0, .int 0, .null])), (q1, .inl (cs 0, 6, .inl (fun _ => 0))), (q2, .inl (cs 0, 6, .inl (fun _ => 0))), (h, .inl (cs 1, 7, .inr (.inr (.inr (.inr (fun k => some (h + 1 + k))))))), (h + 1, .inl (cs 0, 8, .inl (fun _ => 0))), (h + 2, .inl (cs 0, 8, .inl (fun _ => 0))), (h + 3, .inl (cs 0, 8, .inl (fun _ => 0))), (h + 4, .inl (cs 0, 8, .inl (fun _ => 0))), (h + 5, .inl (cs 0, 8, .inl (fun _ => 0))), (h + 6, .inl (cs 0, 8, .inl (fun _ => 0))), (h + 7, .inl (cs 0, 8, .inl (fun _ => 0)))] H := hP
  have hD : va_D A [(o, .inr (1, [.ref q1, .ref q2, .int 0, .int 0, .ref h, .int 0, .int 0, .null])), (q1, .inl (cs 0, 6, .inl (fun _ => 0))), (q2, .inl (cs 0, 6, .inl (fun _ => 0))), (h, .inl (cs 1, 7, .inr (.inr (.inr (.inr (fun k => some (h + 1 + k))))))), (h + 1, .inl (cs 0, 8, .inl (fun _ => 0))), (h + 2, .inl (cs 0, 8, .inl (fun _ => 0))), (h + 3, .inl (cs 0, 8, .inl (fun _ => 0))), (h + 4, .inl (cs 0, 8, .inl (fun _ => 0))), (h + 5, .inl (cs 0, 8, .inl (fun _ => 0))), (h + 6, .inl (cs 0, 8, .inl (fun _ => 0))), (h + 7, .inl (cs 0, 8, .inl (fun _ => 0)))] := hD
  refine lv_aload_n hx hb dX4_init_32 rfl (lv_at hl 0 rfl) ?_
  refine lv_iconst (v := 1) hx hb dX4_init_33 (by decide) ?_
  refine va_put hx hb hts in_X4 tyX4 tyX4_ok nmX4 hown hK hP hD hS 0 rfl rfl 6 (by decide) (hts _ q248) (fun _ h => h) rfl (tyX4_ok 6 (by decide)) rfl rfl (Nat.le_of_ble_eq_true rfl) dX4_init_34 (fun H locs hP hD hS => ?_)
  have hP : va_P D cC [(o, .inr (1, [.ref q1, .ref q2, .int 0, .int 0, .ref h, .int 0, .int 1, .null])), (q1, .inl (cs 0, 6, .inl (fun _ => 0))), (q2, .inl (cs 0, 6, .inl (fun _ => 0))), (h, .inl (cs 1, 7, .inr (.inr (.inr (.inr (fun k => some (h + 1 + k))))))), (h + 1, .inl (cs 0, 8, .inl (fun _ => 0))), (h + 2, .inl (cs 0, 8, .inl (fun _ => 0))), (h + 3, .inl (cs 0, 8, .inl (fun _ => 0))), (h + 4, .inl (cs 0, 8, .inl (fun _ => 0))), (h + 5, .inl (cs 0, 8, .inl (fun _ => 0))), (h + 6, .inl (cs 0, 8, .inl (fun _ => 0))), (h + 7, .inl (cs 0, 8, .inl (fun _ => 0)))] H := hP
  have hD : va_D A [(o, .inr (1, [.ref q1, .ref q2, .int 0, .int 0, .ref h, .int 0, .int 1, .null])), (q1, .inl (cs 0, 6, .inl (fun _ => 0))), (q2, .inl (cs 0, 6, .inl (fun _ => 0))), (h, .inl (cs 1, 7, .inr (.inr (.inr (.inr (fun k => some (h + 1 + k))))))), (h + 1, .inl (cs 0, 8, .inl (fun _ => 0))), (h + 2, .inl (cs 0, 8, .inl (fun _ => 0))), (h + 3, .inl (cs 0, 8, .inl (fun _ => 0))), (h + 4, .inl (cs 0, 8, .inl (fun _ => 0))), (h + 5, .inl (cs 0, 8, .inl (fun _ => 0))), (h + 6, .inl (cs 0, 8, .inl (fun _ => 0))), (h + 7, .inl (cs 0, 8, .inl (fun _ => 0)))] := hD
  refine lv_aload_n hx hb dX4_init_37 rfl (lv_at hl 0 rfl) ?_
  refine lv_bipush (v := 10) hx hb dX4_init_38 (by decide) ?_
  refine kn_newi2 (cI := cs 0) S hK rfl hP hD hS hA 10 (by decide) rfl (by decide) (Nat.le_of_ble_eq_true rfl) (Nat.le_of_ble_eq_true rfl) dX4_init_40 (fun q3 H hP hD hS => ?_)
  have hP : va_P D cC [(o, .inr (1, [.ref q1, .ref q2, .int 0, .int 0, .ref h, .int 0, .int 1, .null])), (q1, .inl (cs 0, 6, .inl (fun _ => 0))), (q2, .inl (cs 0, 6, .inl (fun _ => 0))), (h, .inl (cs 1, 7, .inr (.inr (.inr (.inr (fun k => some (h + 1 + k))))))), (h + 1, .inl (cs 0, 8, .inl (fun _ => 0))), (h + 2, .inl (cs 0, 8, .inl (fun _ => 0))), (h + 3, .inl (cs 0, 8, .inl (fun _ => 0))), (h + 4, .inl (cs 0, 8, .inl (fun _ => 0))), (h + 5, .inl (cs 0, 8, .inl (fun _ => 0))), (h + 6, .inl (cs 0, 8, .inl (fun _ => 0))), (h + 7, .inl (cs 0, 8, .inl (fun _ => 0))), (q3, .inl (cs 0, 10, .inl (fun _ => 0)))] H := hP
  have hD : va_D A [(o, .inr (1, [.ref q1, .ref q2, .int 0, .int 0, .ref h, .int 0, .int 1, .null])), (q1, .inl (cs 0, 6, .inl (fun _ => 0))), (q2, .inl (cs 0, 6, .inl (fun _ => 0))), (h, .inl (cs 1, 7, .inr (.inr (.inr (.inr (fun k => some (h + 1 + k))))))), (h + 1, .inl (cs 0, 8, .inl (fun _ => 0))), (h + 2, .inl (cs 0, 8, .inl (fun _ => 0))), (h + 3, .inl (cs 0, 8, .inl (fun _ => 0))), (h + 4, .inl (cs 0, 8, .inl (fun _ => 0))), (h + 5, .inl (cs 0, 8, .inl (fun _ => 0))), (h + 6, .inl (cs 0, 8, .inl (fun _ => 0))), (h + 7, .inl (cs 0, 8, .inl (fun _ => 0))), (q3, .inl (cs 0, 10, .inl (fun _ => 0)))] := hD
  refine va_putF hx hb hts in_X4 tyX4 tyX4_ok nmX4 hown hK hP hD hS 0 rfl rfl 7 (by decide) (hts _ q250) (fun _ h => h) rfl hin rfl (tyX4_ok 7 (by decide)) rfl rfl (Nat.le_of_ble_eq_true rfl) dX4_init_42 (fun H locs hP hD hS => ?_)
  have hP : va_P D cC [(o, .inr (1, [.ref q1, .ref q2, .int 0, .int 0, .ref h, .int 0, .int 1, .ref q3])), (q1, .inl (cs 0, 6, .inl (fun _ => 0))), (q2, .inl (cs 0, 6, .inl (fun _ => 0))), (h, .inl (cs 1, 7, .inr (.inr (.inr (.inr (fun k => some (h + 1 + k))))))), (h + 1, .inl (cs 0, 8, .inl (fun _ => 0))), (h + 2, .inl (cs 0, 8, .inl (fun _ => 0))), (h + 3, .inl (cs 0, 8, .inl (fun _ => 0))), (h + 4, .inl (cs 0, 8, .inl (fun _ => 0))), (h + 5, .inl (cs 0, 8, .inl (fun _ => 0))), (h + 6, .inl (cs 0, 8, .inl (fun _ => 0))), (h + 7, .inl (cs 0, 8, .inl (fun _ => 0))), (q3, .inl (cs 0, 10, .inl (fun _ => 0)))] H := hP
  have hD : va_D A [(o, .inr (1, [.ref q1, .ref q2, .int 0, .int 0, .ref h, .int 0, .int 1, .ref q3])), (q1, .inl (cs 0, 6, .inl (fun _ => 0))), (q2, .inl (cs 0, 6, .inl (fun _ => 0))), (h, .inl (cs 1, 7, .inr (.inr (.inr (.inr (fun k => some (h + 1 + k))))))), (h + 1, .inl (cs 0, 8, .inl (fun _ => 0))), (h + 2, .inl (cs 0, 8, .inl (fun _ => 0))), (h + 3, .inl (cs 0, 8, .inl (fun _ => 0))), (h + 4, .inl (cs 0, 8, .inl (fun _ => 0))), (h + 5, .inl (cs 0, 8, .inl (fun _ => 0))), (h + 6, .inl (cs 0, 8, .inl (fun _ => 0))), (h + 7, .inl (cs 0, 8, .inl (fun _ => 0))), (q3, .inl (cs 0, 10, .inl (fun _ => 0)))] := hD
  have fin : ∀ (H : Heap) (locs : List Loc) (ls : Array Slot), va_P D cC [(o, .inr (1, [.ref q1, .ref q2, .int 0, .int 0, .ref h, .int 0, .int 1, .ref q3])), (q1, .inl (cs 0, 6, .inl (fun _ => 0))), (q2, .inl (cs 0, 6, .inl (fun i => r_ab 6 0 (10 + i)))), (h, .inl (cs 1, 7, .inr (.inr (.inr (.inr (fun k => some (h + 1 + k))))))), (h + 1, .inl (cs 0, 8, .inl (fun _ => 0))), (h + 2, .inl (cs 0, 8, .inl (fun _ => 0))), (h + 3, .inl (cs 0, 8, .inl (fun _ => 0))), (h + 4, .inl (cs 0, 8, .inl (fun _ => 0))), (h + 5, .inl (cs 0, 8, .inl (fun _ => 0))), (h + 6, .inl (cs 0, 8, .inl (fun _ => 0))), (h + 7, .inl (cs 0, 8, .inl (fun _ => 0))), (q3, .inl (cs 0, 10, .inl (fun i => r_ab 6 10 (72 + i))))] H → va_D A [(o, .inr (1, [.ref q1, .ref q2, .int 0, .int 0, .ref h, .int 0, .int 1, .ref q3])), (q1, .inl (cs 0, 6, .inl (fun _ => 0))), (q2, .inl (cs 0, 6, .inl (fun i => r_ab 6 0 (10 + i)))), (h, .inl (cs 1, 7, .inr (.inr (.inr (.inr (fun k => some (h + 1 + k))))))), (h + 1, .inl (cs 0, 8, .inl (fun _ => 0))), (h + 2, .inl (cs 0, 8, .inl (fun _ => 0))), (h + 3, .inl (cs 0, 8, .inl (fun _ => 0))), (h + 4, .inl (cs 0, 8, .inl (fun _ => 0))), (h + 5, .inl (cs 0, 8, .inl (fun _ => 0))), (h + 6, .inl (cs 0, 8, .inl (fun _ => 0))), (h + 7, .inl (cs 0, 8, .inl (fun _ => 0))), (q3, .inl (cs 0, 10, .inl (fun i => r_ab 6 10 (72 + i))))] → va_S A s.heap H locs → W p l e { frames := 1, cells := 11, slots := 85, locals := 38 } s m ([.ref o] : List Value).toArray below meth c H locs (0 + 1 + 1 + 1 + 7 + 1) (0 + 6 + 6 + 7 + 7 * 8 + 10) (MQ below (kW none (wNew D cs o s.heap.size) A) ([.ref o] : List Value).toArray s 11 85 A) (F0 m 88 ls []) := by
    intro H locs ls hP hD hS
    have hge : ∀ (k : Nat) (q : Nat × va_E), 0 < k → [(o, .inr (1, [.ref q1, .ref q2, .int 0, .int 0, .ref h, .int 0, .int 1, .ref q3])), (q1, .inl (cs 0, 6, .inl (fun _ => 0))), (q2, .inl (cs 0, 6, .inl (fun i => r_ab 6 0 (10 + i)))), (h, .inl (cs 1, 7, .inr (.inr (.inr (.inr (fun k => some (h + 1 + k))))))), (h + 1, .inl (cs 0, 8, .inl (fun _ => 0))), (h + 2, .inl (cs 0, 8, .inl (fun _ => 0))), (h + 3, .inl (cs 0, 8, .inl (fun _ => 0))), (h + 4, .inl (cs 0, 8, .inl (fun _ => 0))), (h + 5, .inl (cs 0, 8, .inl (fun _ => 0))), (h + 6, .inl (cs 0, 8, .inl (fun _ => 0))), (h + 7, .inl (cs 0, 8, .inl (fun _ => 0))), (q3, .inl (cs 0, 10, .inl (fun i => r_ab 6 10 (72 + i))))][k]? = some q → s.heap.size ≤ q.1 := fun k q hk hq => by
      have h1 := hD.2 k q hq
      rw [← hAe] at h1
      rcases h1 with h1 | h1
      · have := hD.1 k 0 q _ hq rfl h1
        omega
      · exact h1
    refine kk_vretW S hr hlk hS ⟨fun j => if j = 0 then o else if j = 1 then q1 else if j = 2 then q2 else if j = 3 then h else if j = 4 then q3 else h + (j - 4), rfl, ?_, ?_, ?_⟩ dX4_init_88
    · intro j h1 h2
      rcases (show j = 1 ∨ j = 2 ∨ j = 3 ∨ j = 4 ∨ j = 5 ∨ j = 6 ∨ j = 7 ∨ j = 8 ∨ j = 9 ∨ j = 10 ∨ j = 11 by omega) with e | e | e | e | e | e | e | e | e | e | e <;> subst e
      · exact hge 1 _ (by decide) rfl
      · exact hge 2 _ (by decide) rfl
      · exact hge 3 _ (by decide) rfl
      · exact hge 11 _ (by decide) rfl
      · exact hge 4 _ (by decide) rfl
      · exact hge 5 _ (by decide) rfl
      · exact hge 6 _ (by decide) rfl
      · exact hge 7 _ (by decide) rfl
      · exact hge 8 _ (by decide) rfl
      · exact hge 9 _ (by decide) rfl
      · exact hge 10 _ (by decide) rfl
    · have inj : ∀ i, i < 12 → ∀ j, j < 12 → ([0, 1, 2, 3, 11, 4, 5, 6, 7, 8, 9, 10].getD i 0 = [0, 1, 2, 3, 11, 4, 5, 6, 7, 8, 9, 10].getD j 0 → i = j) := by decide
      have at_ : ∀ i, i < 12 → ∃ q, ([(o, .inr (1, [.ref q1, .ref q2, .int 0, .int 0, .ref h, .int 0, .int 1, .ref q3])), (q1, .inl (cs 0, 6, .inl (fun _ => 0))), (q2, .inl (cs 0, 6, .inl (fun i => r_ab 6 0 (10 + i)))), (h, .inl (cs 1, 7, .inr (.inr (.inr (.inr (fun k => some (h + 1 + k))))))), (h + 1, .inl (cs 0, 8, .inl (fun _ => 0))), (h + 2, .inl (cs 0, 8, .inl (fun _ => 0))), (h + 3, .inl (cs 0, 8, .inl (fun _ => 0))), (h + 4, .inl (cs 0, 8, .inl (fun _ => 0))), (h + 5, .inl (cs 0, 8, .inl (fun _ => 0))), (h + 6, .inl (cs 0, 8, .inl (fun _ => 0))), (h + 7, .inl (cs 0, 8, .inl (fun _ => 0))), (q3, .inl (cs 0, 10, .inl (fun i => r_ab 6 10 (72 + i))))] : va_W)[[0, 1, 2, 3, 11, 4, 5, 6, 7, 8, 9, 10].getD i 0]? = some q ∧ q.1 = (if i = 0 then o else if i = 1 then q1 else if i = 2 then q2 else if i = 3 then h else if i = 4 then q3 else h + (i - 4)) := by
        intro i hi
        rcases (show i = 0 ∨ i = 1 ∨ i = 2 ∨ i = 3 ∨ i = 4 ∨ i = 5 ∨ i = 6 ∨ i = 7 ∨ i = 8 ∨ i = 9 ∨ i = 10 ∨ i = 11 by omega) with e | e | e | e | e | e | e | e | e | e | e | e <;> subst e <;> exact ⟨_, rfl, rfl⟩
      intro i j hi hj e
      obtain ⟨p1, a1, a2⟩ := at_ i hi
      obtain ⟨p2, b1, b2⟩ := at_ j hj
      exact inj i hi j hj (hD.1 _ _ p1 p2 a1 b1 (by rw [a2, b2]; exact e))
    · intro j hj
      rcases (show j = 0 ∨ j = 1 ∨ j = 2 ∨ j = 3 ∨ j = 4 ∨ j = 5 ∨ j = 6 ∨ j = 7 ∨ j = 8 ∨ j = 9 ∨ j = 10 ∨ j = 11 by omega) with e | e | e | e | e | e | e | e | e | e | e | e <;> subst e
      · exact hP 0 _ rfl
      · exact (show H[_]? = some _ from hP 1 _ rfl).trans (congrArg some (cell_congr fun i hi => by simp only [r_0, r_ab] <;> grind))
      · exact (show H[_]? = some _ from hP 2 _ rfl).trans (congrArg some (cell_congr fun i hi => by simp only [r_0, r_ab] <;> grind))
      · exact (show H[_]? = some _ from hP 3 _ rfl).trans (congrArg some (refs_cg fun i hi => by show some (h + 1 + i) = some (if 5 + i = 0 then o else if 5 + i = 1 then q1 else if 5 + i = 2 then q2 else if 5 + i = 3 then h else if 5 + i = 4 then q3 else h + (5 + i - 4)); rw [if_neg (by omega), if_neg (by omega), if_neg (by omega), if_neg (by omega), if_neg (by omega)]; congr 1; omega))
      · exact (show H[_]? = some _ from hP 11 _ rfl).trans (congrArg some (cell_congr fun i hi => by simp only [r_0, r_ab] <;> grind))
      · exact (show H[_]? = some _ from hP 4 _ rfl).trans (congrArg some (cell_congr fun i hi => by simp only [r_0, r_ab] <;> grind))
      · exact (show H[_]? = some _ from hP 5 _ rfl).trans (congrArg some (cell_congr fun i hi => by simp only [r_0, r_ab] <;> grind))
      · exact (show H[_]? = some _ from hP 6 _ rfl).trans (congrArg some (cell_congr fun i hi => by simp only [r_0, r_ab] <;> grind))
      · exact (show H[_]? = some _ from hP 7 _ rfl).trans (congrArg some (cell_congr fun i hi => by simp only [r_0, r_ab] <;> grind))
      · exact (show H[_]? = some _ from hP 8 _ rfl).trans (congrArg some (cell_congr fun i hi => by simp only [r_0, r_ab] <;> grind))
      · exact (show H[_]? = some _ from hP 9 _ rfl).trans (congrArg some (cell_congr fun i hi => by simp only [r_0, r_ab] <;> grind))
      · exact (show H[_]? = some _ from hP 10 _ rfl).trans (congrArg some (cell_congr fun i hi => by simp only [r_0, r_ab] <;> grind))
  have h69 : ∀ (j k : Nat) (H : Heap) (locs : List Loc) (ls : Array Slot), k + j = 10 → va_P D cC [(o, .inr (1, [.ref q1, .ref q2, .int 0, .int 0, .ref h, .int 0, .int 1, .ref q3])), (q1, .inl (cs 0, 6, .inl (fun _ => 0))), (q2, .inl (cs 0, 6, .inl (fun i => r_ab 6 0 (10 + i)))), (h, .inl (cs 1, 7, .inr (.inr (.inr (.inr (fun k => some (h + 1 + k))))))), (h + 1, .inl (cs 0, 8, .inl (fun _ => 0))), (h + 2, .inl (cs 0, 8, .inl (fun _ => 0))), (h + 3, .inl (cs 0, 8, .inl (fun _ => 0))), (h + 4, .inl (cs 0, 8, .inl (fun _ => 0))), (h + 5, .inl (cs 0, 8, .inl (fun _ => 0))), (h + 6, .inl (cs 0, 8, .inl (fun _ => 0))), (h + 7, .inl (cs 0, 8, .inl (fun _ => 0))), (q3, .inl (cs 0, 10, .inl (fun i => r_ab 6 k (72 + i))))] H → va_D A [(o, .inr (1, [.ref q1, .ref q2, .int 0, .int 0, .ref h, .int 0, .int 1, .ref q3])), (q1, .inl (cs 0, 6, .inl (fun _ => 0))), (q2, .inl (cs 0, 6, .inl (fun i => r_ab 6 0 (10 + i)))), (h, .inl (cs 1, 7, .inr (.inr (.inr (.inr (fun k => some (h + 1 + k))))))), (h + 1, .inl (cs 0, 8, .inl (fun _ => 0))), (h + 2, .inl (cs 0, 8, .inl (fun _ => 0))), (h + 3, .inl (cs 0, 8, .inl (fun _ => 0))), (h + 4, .inl (cs 0, 8, .inl (fun _ => 0))), (h + 5, .inl (cs 0, 8, .inl (fun _ => 0))), (h + 6, .inl (cs 0, 8, .inl (fun _ => 0))), (h + 7, .inl (cs 0, 8, .inl (fun _ => 0))), (q3, .inl (cs 0, 10, .inl (fun i => r_ab 6 k (72 + i))))] → va_S A s.heap H locs → lv_has ls 2 [(1, .int (nI k)), (0, .ref o)] → W p l e { frames := 1, cells := 11, slots := 85, locals := 38 } s m ([.ref o] : List Value).toArray below meth c H locs (0 + 1 + 1 + 1 + 7 + 1) (0 + 6 + 6 + 7 + 7 * 8 + 10) (MQ below (kW none (wNew D cs o s.heap.size) A) ([.ref o] : List Value).toArray s 11 85 A) (F0 m 69 ls []) := by
    intro j
    induction j with
    | zero =>
      intro k H locs ls hkj hP hD hS hl
      obtain rfl : k = 10 := by omega
      refine lv_iload_n hx hb dX4_init_69 rfl (lv_at hl 0 rfl) ?_
      refine lv_bipush (v := 10) hx hb dX4_init_70 (by decide) ?_
      refine kb_ge_n (tgt := 88) (a := 10) (b := 10) S rfl rfl (by decide) (by decide) dX4_init_72 (by decide) (fun c_1 => ?_) (fun c_1 => absurd c_1 (by decide))
      exact fin H locs ls hP hD hS
    | succ j ih =>
      intro k H locs ls hkj hP hD hS hl
      refine lv_iload_n hx hb dX4_init_69 rfl (lv_at hl 0 rfl) ?_
      refine lv_bipush (v := 10) hx hb dX4_init_70 (by decide) ?_
      refine kb_ge_n (tgt := 88) (a := k) (b := 10) S rfl rfl (by omega) (by omega) dX4_init_72 (by decide) (fun c_1 => absurd c_1 (by omega)) (fun c_1 => ?_)
      refine lv_aload_n hx hb dX4_init_75 rfl (lv_at hl 1 rfl) ?_
      refine va_get hx hb hts in_X4 hown hK hP 0 rfl rfl 7 (by decide) (hts _ q250) (fun _ h => h) rfl dX4_init_76 ?_
      refine lv_iload_n hx hb dX4_init_79 rfl (lv_at hl 0 rfl) ?_
      refine lv_iconst (v := (-1)) hx hb dX4_init_80 (by decide) ?_
      refine va_iast hx hb hK hP hD hS 11 0 rfl rfl (vp_in_nI (by omega) (by decide)) dX4_init_81 (fun H locs hP hD hS => ?_)
      rw [nI_clamp (by omega)] at hP hD
      refine lv_iinc (v := (nI (k + 1))) (lv' := [(1, .int (nI (k + 1))), (0, .ref o)]) hx hb dX4_init_82 hl (k := 0) rfl (nn_1 rfl) (by decide) rfl (fun ls hl => ?_)
      refine lv_goto (tgt := 69) hx hb dX4_init_85 (by decide) ?_
      have hf : (upd (fun i => r_ab 6 k (72 + i)) k (-1)) = (fun i => r_ab 6 (k + 1) (72 + i)) := by funext i; simp only [upd, r_ab]; grind
      refine ih (k + 1) H locs ls (by omega) ?_ ?_ hS hl
      · rw [← hf]; exact hP
      · rw [← hf]; exact hD
  have e2 : ∀ k, k ≤ 6 → (fun i => r_ab k 0 (72 + i)) = (fun i => r_ab 6 0 (72 + i)) := fun k hk => by funext i; simp only [r_ab]; grind
  have h47 : ∀ (j k : Nat) (H : Heap) (locs : List Loc) (ls : Array Slot), k + j = 6 → va_P D cC [(o, .inr (1, [.ref q1, .ref q2, .int 0, .int 0, .ref h, .int 0, .int 1, .ref q3])), (q1, .inl (cs 0, 6, .inl (fun _ => 0))), (q2, .inl (cs 0, 6, .inl (fun i => r_ab k 0 (10 + i)))), (h, .inl (cs 1, 7, .inr (.inr (.inr (.inr (fun k => some (h + 1 + k))))))), (h + 1, .inl (cs 0, 8, .inl (fun _ => 0))), (h + 2, .inl (cs 0, 8, .inl (fun _ => 0))), (h + 3, .inl (cs 0, 8, .inl (fun _ => 0))), (h + 4, .inl (cs 0, 8, .inl (fun _ => 0))), (h + 5, .inl (cs 0, 8, .inl (fun _ => 0))), (h + 6, .inl (cs 0, 8, .inl (fun _ => 0))), (h + 7, .inl (cs 0, 8, .inl (fun _ => 0))), (q3, .inl (cs 0, 10, .inl (fun i => r_ab 6 0 (72 + i))))] H → va_D A [(o, .inr (1, [.ref q1, .ref q2, .int 0, .int 0, .ref h, .int 0, .int 1, .ref q3])), (q1, .inl (cs 0, 6, .inl (fun _ => 0))), (q2, .inl (cs 0, 6, .inl (fun i => r_ab k 0 (10 + i)))), (h, .inl (cs 1, 7, .inr (.inr (.inr (.inr (fun k => some (h + 1 + k))))))), (h + 1, .inl (cs 0, 8, .inl (fun _ => 0))), (h + 2, .inl (cs 0, 8, .inl (fun _ => 0))), (h + 3, .inl (cs 0, 8, .inl (fun _ => 0))), (h + 4, .inl (cs 0, 8, .inl (fun _ => 0))), (h + 5, .inl (cs 0, 8, .inl (fun _ => 0))), (h + 6, .inl (cs 0, 8, .inl (fun _ => 0))), (h + 7, .inl (cs 0, 8, .inl (fun _ => 0))), (q3, .inl (cs 0, 10, .inl (fun i => r_ab 6 0 (72 + i))))] → va_S A s.heap H locs → lv_has ls 2 [(1, .int (nI k)), (0, .ref o)] → W p l e { frames := 1, cells := 11, slots := 85, locals := 38 } s m ([.ref o] : List Value).toArray below meth c H locs (0 + 1 + 1 + 1 + 7 + 1) (0 + 6 + 6 + 7 + 7 * 8 + 10) (MQ below (kW none (wNew D cs o s.heap.size) A) ([.ref o] : List Value).toArray s 11 85 A) (F0 m 47 ls []) := by
    intro j
    induction j with
    | zero =>
      intro k H locs ls hkj hP hD hS hl
      obtain rfl : k = 6 := by omega
      refine lv_iload_n hx hb dX4_init_47 rfl (lv_at hl 0 rfl) ?_
      refine lv_bipush (v := 6) hx hb dX4_init_48 (by decide) ?_
      refine kb_ge_n (tgt := 67) (a := 6) (b := 6) S rfl rfl (by decide) (by decide) dX4_init_50 (by decide) (fun c_1 => ?_) (fun c_1 => absurd c_1 (by decide))
      refine lv_iconst (v := 0) hx hb dX4_init_67 (by decide) ?_
      refine lv_istore_n (lv' := [(1, .int 0), (0, .ref o)]) hx hb dX4_init_68 rfl hl (by decide) rfl (fun ls hl => ?_)
      exact h69 10 0 H locs ls rfl hP hD hS hl
    | succ j ih =>
      intro k H locs ls hkj hP hD hS hl
      refine lv_iload_n hx hb dX4_init_47 rfl (lv_at hl 0 rfl) ?_
      refine lv_bipush (v := 6) hx hb dX4_init_48 (by decide) ?_
      refine kb_ge_n (tgt := 67) (a := k) (b := 6) S rfl rfl (by omega) (by omega) dX4_init_50 (by decide) (fun c_1 => absurd c_1 (by omega)) (fun c_1 => ?_)
      refine lv_aload_n hx hb dX4_init_53 rfl (lv_at hl 1 rfl) ?_
      refine va_get hx hb hts in_X4 hown hK hP 0 rfl rfl 1 (by decide) (hts _ q234) (fun _ h => h) rfl dX4_init_54 ?_
      refine lv_iload_n hx hb dX4_init_57 rfl (lv_at hl 0 rfl) ?_
      refine lv_bipush (v := 10) hx hb dX4_init_58 (by decide) ?_
      refine va_iast hx hb hK hP hD hS 2 0 rfl rfl (vp_in_nI (by omega) (by decide)) dX4_init_60 (fun H locs hP hD hS => ?_)
      rw [nI_clamp (by omega)] at hP hD
      refine lv_iinc (v := (nI (k + 1))) (lv' := [(1, .int (nI (k + 1))), (0, .ref o)]) hx hb dX4_init_61 hl (k := 0) rfl (nn_1 rfl) (by decide) rfl (fun ls hl => ?_)
      refine lv_goto (tgt := 47) hx hb dX4_init_64 (by decide) ?_
      have hf : (upd (fun i => r_ab k 0 (10 + i)) k 10) = (fun i => r_ab (k + 1) 0 (10 + i)) := by funext i; simp only [upd, r_ab]; grind
      refine ih (k + 1) H locs ls (by omega) ?_ ?_ hS hl
      · rw [← hf]; exact hP
      · rw [← hf]; exact hD
  have z1 : (fun _ => (0 : Int32)) = (fun i => r_ab 0 0 (10 + i)) := by funext i; simp only [r_ab]; grind
  have z2 : (fun _ => (0 : Int32)) = (fun i => r_ab 6 0 (72 + i)) := by funext i; simp only [r_ab]; grind
  refine lv_iconst (v := 0) hx hb dX4_init_45 (by decide) ?_
  refine lv_istore_n (lv' := [(1, .int 0), (0, .ref o)]) hx hb dX4_init_46 rfl hl (by decide) rfl (fun ls hl => ?_)
  refine h47 6 0 H locs ls rfl ?_ ?_ hS hl
  · rw [← z1, ← z2]; exact hP
  · rw [← z1, ← z2]; exact hD

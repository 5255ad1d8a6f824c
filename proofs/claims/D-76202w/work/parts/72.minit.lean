/-! MODEL: the constructor -/
/-- the row at the start -/
def r_0 : Rw := fun i => if i = 2 then 1 else if 10 ≤ i ∧ i < 16 then 10 else if 72 ≤ i ∧ i < 82 then -1 else 0
/-- a row while the constructor fills it: a of the lists, b of the holds -/
def r_ab (a b : Nat) : Rw := fun i => if i = 2 then 1 else if 10 ≤ i ∧ i < 10 + a then 10 else if 72 ≤ i ∧ i < 72 + b then -1 else 0
def x_0 : Nat → Rw := fun k => match k with
  | 6 => fun i => if i < 4 then -1 else 0
  | _ => fun _ => 0
theorem x_06 : upd (upd (upd (upd (fun _ => (0 : Int32)) 0 (-1)) 1 (-1)) 2 (-1)) 3 (-1) = x_0 6 := by
  funext i
  simp only [x_0, upd]
  grind
theorem r_ab0 : upd (fun _ => (0 : Int32)) 2 1 = r_ab 0 0 := by
  funext i
  simp only [r_ab, upd]
  grind
theorem r_aba {a : Nat} (h : a < 6) : upd (r_ab a 0) (10 + a) 10 = r_ab (a + 1) 0 := by
  funext i
  simp only [r_ab, upd]
  grind
theorem r_abb {b : Nat} (h : b < 10) : upd (r_ab 6 b) (72 + b) (-1) = r_ab 6 (b + 1) := by
  funext i
  simp only [r_ab, upd]
  grind
theorem r_abz : r_ab 6 10 = r_0 := rfl
section KN
variable {p : Program} {l : Launch} {e : Env} {R : Room} {s : State} {m : MethodId} {args : Array Value} {below : List Frame} {meth : Method} {c : Code} {H : Heap} {locs : List Loc} {cells slots : Nat} {Q : State → Prop}
variable {cc : ByteArray} {pc nL : Nat} {ls : Array Slot} {rest st0 : List Value} {own : String} {A : Nat → Prop} {H0 : Heap} {D : va_G} {cl : List vw_C} {ws : va_W} {cI : ClassId}
/-- a new array of ints, its class's number known -/
theorem kn_newi (S : CallFix p m c cc nL s args lw_all own) (hK : va_K D cl [(cI, .int)] s) (hP : va_P D cl ws H) (hD : va_D A ws) (hS : va_S A H0 H locs) (hA : ∀ q, H0.size ≤ q → A q)
    {n : Int32} (N' : Nat) (hn : ¬ n < 0) (hN : n.toNatClampNeg = N') (hbytes : N' * 4 ≤ 536870912) (hcells : cells + 1 ≤ R.cells) (hslots : slots + N' ≤ R.slots) (hdg : decode cc pc = .ok (.newarray .int, 2))
    (kk : ∀ (q : Nat) (H1 : Heap), va_P D cl (ws ++ [(q, .inl (cI, N', .inl (fun _ => 0)))]) H1 → va_D A (ws ++ [(q, .inl (cI, N', .inl (fun _ => 0)))]) → va_S A H0 H1 locs →
      W p l e R s m args below meth c H1 locs (cells + 1) (slots + N') Q (F0 m (pc + 2) ls (.ref q :: rest))) : W p l e R s m args below meth c H locs cells slots Q (F0 m pc ls (.int n :: rest)) := by
  refine va_newa (atype := .int) S.1 S.2.1 (S.2.2.2.2 _ q270) rfl hK hP hD hS hA (a0 := (N', .inl (fun _ => 0))) (fun cA => vp_cell_i cA N' _) hn hN hbytes hcells hslots hdg fun q cA H1 hK1 hP1 hD1 hS1 => ?_
  have h1 := (hK.2 0 _ rfl).2
  have h2 := (hK1.2 1 _ rfl).2
  have h3 : cI = cA := Option.some.inj (h1.symm.trans h2)
  subst h3
  exact kk q H1 hP1 hD1 hS1
end KN
abbrev f_0 : List Value := [.null, .null, .null, .null, .int 0, .null, .null, .int 0, .null, .null, .null, .int 0, .int 0, .int 0, .int 0, .int 0, .int 0, .int 0]
/-- behind the constructor: the model's cells, new, as they start -/
def mI (D : va_G) (cI : ClassId) (o sz : Nat) (t : State) : Prop := ∃ ad : Nat → Nat, ad 0 = o ∧ (∀ j, 0 < j → j < 10 → sz ≤ ad j) ∧ mK (D, ad, cI) t ∧ mW (D, ad, cI) r_0 x_0 t.heap
def mIQ (D : va_G) (cI : ClassId) (o sz : Nat) : Array Value → State → Outcome → State → Prop := fun _ st oc t => oc = .returned none ∧ mI D cI o sz t ∧ va_F (fun q => q = o ∨ sz ≤ q) st t
set_option maxHeartbeats 4000000 in
set_option maxRecDepth 100000 in
theorem k_init (l : Launch) (D : va_G) (cI : ClassId) (o sz : Nat) : Met l yX13_init (ws_ yX13_init cX13_init 2 none) { frames := 1, cells := 9, slots := 624, locals := 38 } (va_Pc [.ref o] (fun U => U.heap.size = sz ∧ va_K D gC [(cI, .int)] U ∧ va_at D gC (o, .inr (0, f_0)) U.heap)) (mIQ D cI o sz) 9 624 (fun q => q = o ∨ sz ≤ q) := by
  refine kk_start (by decide) (Nat.le_of_ble_eq_true rfl) ?_
  intro p e s m below meth c S hr hlk hin hB ls hl
  obtain ⟨hsz, hK, hP⟩ := hB
  subst hsz
  have hx := S.1
  have hb := S.2.1
  have hin := hin rfl
  have hown : s.vm.findClass RX13 = some m.cls := S.2.2.2.1
  have hts := S.2.2.2.2
  generalize hAe : (fun q => q = o ∨ s.heap.size ≤ q) = A
  have hA : ∀ q, s.heap.size ≤ q → A q := fun q h => by rw [← hAe]; exact Or.inr h
  have hol : o < s.heap.size := hP.lt
  have hS : va_S A s.heap s.heap [] := va_S.rf
  have hP : va_P D gC [(o, .inr (0, f_0))] s.heap := fun k q hq => by
    match k, hq with
    | 0, hq => cases hq; exact hP
    | k + 1, hq => simp at hq
  have hD : va_D A [(o, .inr (0, f_0))] := ⟨fun i j p q h1 h2 _ => by
      have := (List.getElem?_eq_some_iff.mp h1).1
      have := (List.getElem?_eq_some_iff.mp h2).1
      simp at *; omega, fun k q hq => by
      match k, hq with
      | 0, hq => cases hq; rw [← hAe]; exact Or.inl rfl
      | k + 1, hq => simp at hq⟩
  have hl : lv_has ls 2 [(0, .ref o)] := hl
  refine lv_aload_n hx hb dX13_init_0 rfl (lv_at hl 0 rfl) ?_
  refine W.objInit hx hb hown (hts _ q1234) (hts _ q131) (hts _ q132) rfl (by rw [S.2.2.1]; exact hl.1) rfl dX13_init_1 (Nat.le_of_ble_eq_true rfl) (Nat.le_of_ble_eq_true rfl) ?_
  refine W.eq (g2 := F0 m 4 ls []) rfl ?_
  refine lv_aload_n hx hb dX13_init_4 rfl (lv_at hl 0 rfl) ?_
  refine lv_bipush (v := 82) hx hb dX13_init_5 (by decide) ?_
  refine kn_newi S hK hP hD hS hA 82 (by decide) rfl (by decide) (Nat.le_of_ble_eq_true rfl) (Nat.le_of_ble_eq_true rfl) dX13_init_7 (fun q1 H hP hD hS => ?_)
  have hP : va_P D gC [(o, .inr (0, [.null, .null, .null, .null, .int 0, .null, .null, .int 0, .null, .null, .null, .int 0, .int 0, .int 0, .int 0, .int 0, .int 0, .int 0])), (q1, .inl (cI, 82, .inl (fun _ => 0)))] H := hP
  have hD : va_D A [(o, .inr (0, [.null, .null, .null, .null, .int 0, .null, .null, .int 0, .null, .null, .null, .int 0, .int 0, .int 0, .int 0, .int 0, .int 0, .int 0])), (q1, .inl (cI, 82, .inl (fun _ => 0)))] := hD
  refine va_putF hx hb hts in_X13 tyX13 tyX13_ok nmX13 hown hK hP hD hS 0 rfl rfl 0 (by decide) (hts _ q1235) (fun _ h => h) rfl hin rfl (tyX13_ok 0 (by decide)) rfl rfl (Nat.le_of_ble_eq_true rfl) dX13_init_9 (fun H locs hP hD hS => ?_)
  have hP : va_P D gC [(o, .inr (0, [.ref q1, .null, .null, .null, .int 0, .null, .null, .int 0, .null, .null, .null, .int 0, .int 0, .int 0, .int 0, .int 0, .int 0, .int 0])), (q1, .inl (cI, 82, .inl (fun _ => 0)))] H := hP
  have hD : va_D A [(o, .inr (0, [.ref q1, .null, .null, .null, .int 0, .null, .null, .int 0, .null, .null, .null, .int 0, .int 0, .int 0, .int 0, .int 0, .int 0, .int 0])), (q1, .inl (cI, 82, .inl (fun _ => 0)))] := hD
  refine lv_aload_n hx hb dX13_init_12 rfl (lv_at hl 0 rfl) ?_
  refine lv_bipush (v := 82) hx hb dX13_init_13 (by decide) ?_
  refine kn_newi S hK hP hD hS hA 82 (by decide) rfl (by decide) (Nat.le_of_ble_eq_true rfl) (Nat.le_of_ble_eq_true rfl) dX13_init_15 (fun q2 H hP hD hS => ?_)
  have hP : va_P D gC [(o, .inr (0, [.ref q1, .null, .null, .null, .int 0, .null, .null, .int 0, .null, .null, .null, .int 0, .int 0, .int 0, .int 0, .int 0, .int 0, .int 0])), (q1, .inl (cI, 82, .inl (fun _ => 0))), (q2, .inl (cI, 82, .inl (fun _ => 0)))] H := hP
  have hD : va_D A [(o, .inr (0, [.ref q1, .null, .null, .null, .int 0, .null, .null, .int 0, .null, .null, .null, .int 0, .int 0, .int 0, .int 0, .int 0, .int 0, .int 0])), (q1, .inl (cI, 82, .inl (fun _ => 0))), (q2, .inl (cI, 82, .inl (fun _ => 0)))] := hD
  refine va_putF hx hb hts in_X13 tyX13 tyX13_ok nmX13 hown hK hP hD hS 0 rfl rfl 1 (by decide) (hts _ q1236) (fun _ h => h) rfl hin rfl (tyX13_ok 1 (by decide)) rfl rfl (Nat.le_of_ble_eq_true rfl) dX13_init_17 (fun H locs hP hD hS => ?_)
  have hP : va_P D gC [(o, .inr (0, [.ref q1, .ref q2, .null, .null, .int 0, .null, .null, .int 0, .null, .null, .null, .int 0, .int 0, .int 0, .int 0, .int 0, .int 0, .int 0])), (q1, .inl (cI, 82, .inl (fun _ => 0))), (q2, .inl (cI, 82, .inl (fun _ => 0)))] H := hP
  have hD : va_D A [(o, .inr (0, [.ref q1, .ref q2, .null, .null, .int 0, .null, .null, .int 0, .null, .null, .null, .int 0, .int 0, .int 0, .int 0, .int 0, .int 0, .int 0])), (q1, .inl (cI, 82, .inl (fun _ => 0))), (q2, .inl (cI, 82, .inl (fun _ => 0)))] := hD
  refine lv_aload_n hx hb dX13_init_20 rfl (lv_at hl 0 rfl) ?_
  refine lv_bipush (v := 82) hx hb dX13_init_21 (by decide) ?_
  refine kn_newi S hK hP hD hS hA 82 (by decide) rfl (by decide) (Nat.le_of_ble_eq_true rfl) (Nat.le_of_ble_eq_true rfl) dX13_init_23 (fun q3 H hP hD hS => ?_)
  have hP : va_P D gC [(o, .inr (0, [.ref q1, .ref q2, .null, .null, .int 0, .null, .null, .int 0, .null, .null, .null, .int 0, .int 0, .int 0, .int 0, .int 0, .int 0, .int 0])), (q1, .inl (cI, 82, .inl (fun _ => 0))), (q2, .inl (cI, 82, .inl (fun _ => 0))), (q3, .inl (cI, 82, .inl (fun _ => 0)))] H := hP
  have hD : va_D A [(o, .inr (0, [.ref q1, .ref q2, .null, .null, .int 0, .null, .null, .int 0, .null, .null, .null, .int 0, .int 0, .int 0, .int 0, .int 0, .int 0, .int 0])), (q1, .inl (cI, 82, .inl (fun _ => 0))), (q2, .inl (cI, 82, .inl (fun _ => 0))), (q3, .inl (cI, 82, .inl (fun _ => 0)))] := hD
  refine va_putF hx hb hts in_X13 tyX13 tyX13_ok nmX13 hown hK hP hD hS 0 rfl rfl 2 (by decide) (hts _ q1237) (fun _ h => h) rfl hin rfl (tyX13_ok 2 (by decide)) rfl rfl (Nat.le_of_ble_eq_true rfl) dX13_init_25 (fun H locs hP hD hS => ?_)
  have hP : va_P D gC [(o, .inr (0, [.ref q1, .ref q2, .ref q3, .null, .int 0, .null, .null, .int 0, .null, .null, .null, .int 0, .int 0, .int 0, .int 0, .int 0, .int 0, .int 0])), (q1, .inl (cI, 82, .inl (fun _ => 0))), (q2, .inl (cI, 82, .inl (fun _ => 0))), (q3, .inl (cI, 82, .inl (fun _ => 0)))] H := hP
  have hD : va_D A [(o, .inr (0, [.ref q1, .ref q2, .ref q3, .null, .int 0, .null, .null, .int 0, .null, .null, .null, .int 0, .int 0, .int 0, .int 0, .int 0, .int 0, .int 0])), (q1, .inl (cI, 82, .inl (fun _ => 0))), (q2, .inl (cI, 82, .inl (fun _ => 0))), (q3, .inl (cI, 82, .inl (fun _ => 0)))] := hD
  refine lv_aload_n hx hb dX13_init_28 rfl (lv_at hl 0 rfl) ?_
  refine lv_bipush (v := 82) hx hb dX13_init_29 (by decide) ?_
  refine kn_newi S hK hP hD hS hA 82 (by decide) rfl (by decide) (Nat.le_of_ble_eq_true rfl) (Nat.le_of_ble_eq_true rfl) dX13_init_31 (fun q4 H hP hD hS => ?_)
  have hP : va_P D gC [(o, .inr (0, [.ref q1, .ref q2, .ref q3, .null, .int 0, .null, .null, .int 0, .null, .null, .null, .int 0, .int 0, .int 0, .int 0, .int 0, .int 0, .int 0])), (q1, .inl (cI, 82, .inl (fun _ => 0))), (q2, .inl (cI, 82, .inl (fun _ => 0))), (q3, .inl (cI, 82, .inl (fun _ => 0))), (q4, .inl (cI, 82, .inl (fun _ => 0)))] H := hP
  have hD : va_D A [(o, .inr (0, [.ref q1, .ref q2, .ref q3, .null, .int 0, .null, .null, .int 0, .null, .null, .null, .int 0, .int 0, .int 0, .int 0, .int 0, .int 0, .int 0])), (q1, .inl (cI, 82, .inl (fun _ => 0))), (q2, .inl (cI, 82, .inl (fun _ => 0))), (q3, .inl (cI, 82, .inl (fun _ => 0))), (q4, .inl (cI, 82, .inl (fun _ => 0)))] := hD
  refine va_putF hx hb hts in_X13 tyX13 tyX13_ok nmX13 hown hK hP hD hS 0 rfl rfl 3 (by decide) (hts _ q1238) (fun _ h => h) rfl hin rfl (tyX13_ok 3 (by decide)) rfl rfl (Nat.le_of_ble_eq_true rfl) dX13_init_33 (fun H locs hP hD hS => ?_)
  have hP : va_P D gC [(o, .inr (0, [.ref q1, .ref q2, .ref q3, .ref q4, .int 0, .null, .null, .int 0, .null, .null, .null, .int 0, .int 0, .int 0, .int 0, .int 0, .int 0, .int 0])), (q1, .inl (cI, 82, .inl (fun _ => 0))), (q2, .inl (cI, 82, .inl (fun _ => 0))), (q3, .inl (cI, 82, .inl (fun _ => 0))), (q4, .inl (cI, 82, .inl (fun _ => 0)))] H := hP
  have hD : va_D A [(o, .inr (0, [.ref q1, .ref q2, .ref q3, .ref q4, .int 0, .null, .null, .int 0, .null, .null, .null, .int 0, .int 0, .int 0, .int 0, .int 0, .int 0, .int 0])), (q1, .inl (cI, 82, .inl (fun _ => 0))), (q2, .inl (cI, 82, .inl (fun _ => 0))), (q3, .inl (cI, 82, .inl (fun _ => 0))), (q4, .inl (cI, 82, .inl (fun _ => 0)))] := hD
  refine lv_aload_n hx hb dX13_init_36 rfl (lv_at hl 0 rfl) ?_
  refine lv_bipush (v := 8) hx hb dX13_init_37 (by decide) ?_
  refine kn_newi S hK hP hD hS hA 8 (by decide) rfl (by decide) (Nat.le_of_ble_eq_true rfl) (Nat.le_of_ble_eq_true rfl) dX13_init_39 (fun q5 H hP hD hS => ?_)
  have hP : va_P D gC [(o, .inr (0, [.ref q1, .ref q2, .ref q3, .ref q4, .int 0, .null, .null, .int 0, .null, .null, .null, .int 0, .int 0, .int 0, .int 0, .int 0, .int 0, .int 0])), (q1, .inl (cI, 82, .inl (fun _ => 0))), (q2, .inl (cI, 82, .inl (fun _ => 0))), (q3, .inl (cI, 82, .inl (fun _ => 0))), (q4, .inl (cI, 82, .inl (fun _ => 0))), (q5, .inl (cI, 8, .inl (fun _ => 0)))] H := hP
  have hD : va_D A [(o, .inr (0, [.ref q1, .ref q2, .ref q3, .ref q4, .int 0, .null, .null, .int 0, .null, .null, .null, .int 0, .int 0, .int 0, .int 0, .int 0, .int 0, .int 0])), (q1, .inl (cI, 82, .inl (fun _ => 0))), (q2, .inl (cI, 82, .inl (fun _ => 0))), (q3, .inl (cI, 82, .inl (fun _ => 0))), (q4, .inl (cI, 82, .inl (fun _ => 0))), (q5, .inl (cI, 8, .inl (fun _ => 0)))] := hD
  refine va_putF hx hb hts in_X13 tyX13 tyX13_ok nmX13 hown hK hP hD hS 0 rfl rfl 5 (by decide) (hts _ q1240) (fun _ h => h) rfl hin rfl (tyX13_ok 5 (by decide)) rfl rfl (Nat.le_of_ble_eq_true rfl) dX13_init_41 (fun H locs hP hD hS => ?_)
  have hP : va_P D gC [(o, .inr (0, [.ref q1, .ref q2, .ref q3, .ref q4, .int 0, .ref q5, .null, .int 0, .null, .null, .null, .int 0, .int 0, .int 0, .int 0, .int 0, .int 0, .int 0])), (q1, .inl (cI, 82, .inl (fun _ => 0))), (q2, .inl (cI, 82, .inl (fun _ => 0))), (q3, .inl (cI, 82, .inl (fun _ => 0))), (q4, .inl (cI, 82, .inl (fun _ => 0))), (q5, .inl (cI, 8, .inl (fun _ => 0)))] H := hP
  have hD : va_D A [(o, .inr (0, [.ref q1, .ref q2, .ref q3, .ref q4, .int 0, .ref q5, .null, .int 0, .null, .null, .null, .int 0, .int 0, .int 0, .int 0, .int 0, .int 0, .int 0])), (q1, .inl (cI, 82, .inl (fun _ => 0))), (q2, .inl (cI, 82, .inl (fun _ => 0))), (q3, .inl (cI, 82, .inl (fun _ => 0))), (q4, .inl (cI, 82, .inl (fun _ => 0))), (q5, .inl (cI, 8, .inl (fun _ => 0)))] := hD
  refine lv_aload_n hx hb dX13_init_44 rfl (lv_at hl 0 rfl) ?_
  refine lv_bipush (v := 120) hx hb dX13_init_45 (by decide) ?_
  refine kn_newi S hK hP hD hS hA 120 (by decide) rfl (by decide) (Nat.le_of_ble_eq_true rfl) (Nat.le_of_ble_eq_true rfl) dX13_init_47 (fun q6 H hP hD hS => ?_)
  have hP : va_P D gC [(o, .inr (0, [.ref q1, .ref q2, .ref q3, .ref q4, .int 0, .ref q5, .null, .int 0, .null, .null, .null, .int 0, .int 0, .int 0, .int 0, .int 0, .int 0, .int 0])), (q1, .inl (cI, 82, .inl (fun _ => 0))), (q2, .inl (cI, 82, .inl (fun _ => 0))), (q3, .inl (cI, 82, .inl (fun _ => 0))), (q4, .inl (cI, 82, .inl (fun _ => 0))), (q5, .inl (cI, 8, .inl (fun _ => 0))), (q6, .inl (cI, 120, .inl (fun _ => 0)))] H := hP
  have hD : va_D A [(o, .inr (0, [.ref q1, .ref q2, .ref q3, .ref q4, .int 0, .ref q5, .null, .int 0, .null, .null, .null, .int 0, .int 0, .int 0, .int 0, .int 0, .int 0, .int 0])), (q1, .inl (cI, 82, .inl (fun _ => 0))), (q2, .inl (cI, 82, .inl (fun _ => 0))), (q3, .inl (cI, 82, .inl (fun _ => 0))), (q4, .inl (cI, 82, .inl (fun _ => 0))), (q5, .inl (cI, 8, .inl (fun _ => 0))), (q6, .inl (cI, 120, .inl (fun _ => 0)))] := hD
  refine va_putF hx hb hts in_X13 tyX13 tyX13_ok nmX13 hown hK hP hD hS 0 rfl rfl 6 (by decide) (hts _ q1241) (fun _ h => h) rfl hin rfl (tyX13_ok 6 (by decide)) rfl rfl (Nat.le_of_ble_eq_true rfl) dX13_init_49 (fun H locs hP hD hS => ?_)
  have hP : va_P D gC [(o, .inr (0, [.ref q1, .ref q2, .ref q3, .ref q4, .int 0, .ref q5, .ref q6, .int 0, .null, .null, .null, .int 0, .int 0, .int 0, .int 0, .int 0, .int 0, .int 0])), (q1, .inl (cI, 82, .inl (fun _ => 0))), (q2, .inl (cI, 82, .inl (fun _ => 0))), (q3, .inl (cI, 82, .inl (fun _ => 0))), (q4, .inl (cI, 82, .inl (fun _ => 0))), (q5, .inl (cI, 8, .inl (fun _ => 0))), (q6, .inl (cI, 120, .inl (fun _ => 0)))] H := hP
  have hD : va_D A [(o, .inr (0, [.ref q1, .ref q2, .ref q3, .ref q4, .int 0, .ref q5, .ref q6, .int 0, .null, .null, .null, .int 0, .int 0, .int 0, .int 0, .int 0, .int 0, .int 0])), (q1, .inl (cI, 82, .inl (fun _ => 0))), (q2, .inl (cI, 82, .inl (fun _ => 0))), (q3, .inl (cI, 82, .inl (fun _ => 0))), (q4, .inl (cI, 82, .inl (fun _ => 0))), (q5, .inl (cI, 8, .inl (fun _ => 0))), (q6, .inl (cI, 120, .inl (fun _ => 0)))] := hD
  refine lv_aload_n hx hb dX13_init_52 rfl (lv_at hl 0 rfl) ?_
  refine lv_iconst (v := 4) hx hb dX13_init_53 (by decide) ?_
  refine kn_newi S hK hP hD hS hA 4 (by decide) rfl (by decide) (Nat.le_of_ble_eq_true rfl) (Nat.le_of_ble_eq_true rfl) dX13_init_54 (fun q7 H hP hD hS => ?_)
  have hP : va_P D gC [(o, .inr (0, [.ref q1, .ref q2, .ref q3, .ref q4, .int 0, .ref q5, .ref q6, .int 0, .null, .null, .null, .int 0, .int 0, .int 0, .int 0, .int 0, .int 0, .int 0])), (q1, .inl (cI, 82, .inl (fun _ => 0))), (q2, .inl (cI, 82, .inl (fun _ => 0))), (q3, .inl (cI, 82, .inl (fun _ => 0))), (q4, .inl (cI, 82, .inl (fun _ => 0))), (q5, .inl (cI, 8, .inl (fun _ => 0))), (q6, .inl (cI, 120, .inl (fun _ => 0))), (q7, .inl (cI, 4, .inl (fun _ => 0)))] H := hP
  have hD : va_D A [(o, .inr (0, [.ref q1, .ref q2, .ref q3, .ref q4, .int 0, .ref q5, .ref q6, .int 0, .null, .null, .null, .int 0, .int 0, .int 0, .int 0, .int 0, .int 0, .int 0])), (q1, .inl (cI, 82, .inl (fun _ => 0))), (q2, .inl (cI, 82, .inl (fun _ => 0))), (q3, .inl (cI, 82, .inl (fun _ => 0))), (q4, .inl (cI, 82, .inl (fun _ => 0))), (q5, .inl (cI, 8, .inl (fun _ => 0))), (q6, .inl (cI, 120, .inl (fun _ => 0))), (q7, .inl (cI, 4, .inl (fun _ => 0)))] := hD
  refine lv_dup hx hb dX13_init_56 rfl ?_
  refine lv_iconst (v := 0) hx hb dX13_init_57 (by decide) ?_
  refine lv_iconst (v := (-1)) hx hb dX13_init_58 (by decide) ?_
  refine va_iast hx hb hK hP hD hS 7 0 rfl rfl (vp_in_nI (n := 0) (by decide) (by decide)) dX13_init_59 (fun H locs hP hD hS => ?_)
  refine lv_dup hx hb dX13_init_60 rfl ?_
  refine lv_iconst (v := 1) hx hb dX13_init_61 (by decide) ?_
  refine lv_iconst (v := (-1)) hx hb dX13_init_62 (by decide) ?_
  refine va_iast hx hb hK hP hD hS 7 0 rfl rfl (vp_in_nI (n := 1) (by decide) (by decide)) dX13_init_63 (fun H locs hP hD hS => ?_)
  refine lv_dup hx hb dX13_init_64 rfl ?_
  refine lv_iconst (v := 2) hx hb dX13_init_65 (by decide) ?_
  refine lv_iconst (v := (-1)) hx hb dX13_init_66 (by decide) ?_
  refine va_iast hx hb hK hP hD hS 7 0 rfl rfl (vp_in_nI (n := 2) (by decide) (by decide)) dX13_init_67 (fun H locs hP hD hS => ?_)
  refine lv_dup hx hb dX13_init_68 rfl ?_
  refine lv_iconst (v := 3) hx hb dX13_init_69 (by decide) ?_
  refine lv_iconst (v := (-1)) hx hb dX13_init_70 (by decide) ?_
  refine va_iast hx hb hK hP hD hS 7 0 rfl rfl (vp_in_nI (n := 3) (by decide) (by decide)) dX13_init_71 (fun H locs hP hD hS => ?_)
  have hP : va_P D gC [(o, .inr (0, [.ref q1, .ref q2, .ref q3, .ref q4, .int 0, .ref q5, .ref q6, .int 0, .null, .null, .null, .int 0, .int 0, .int 0, .int 0, .int 0, .int 0, .int 0])), (q1, .inl (cI, 82, .inl (fun _ => 0))), (q2, .inl (cI, 82, .inl (fun _ => 0))), (q3, .inl (cI, 82, .inl (fun _ => 0))), (q4, .inl (cI, 82, .inl (fun _ => 0))), (q5, .inl (cI, 8, .inl (fun _ => 0))), (q6, .inl (cI, 120, .inl (fun _ => 0))), (q7, .inl (cI, 4, .inl (upd (upd (upd (upd (fun _ => 0) 0 (-1)) 1 (-1)) 2 (-1)) 3 (-1))))] H := hP
  have hD : va_D A [(o, .inr (0, [.ref q1, .ref q2, .ref q3, .ref q4, .int 0, .ref q5, .ref q6, .int 0, .null, .null, .null, .int 0, .int 0, .int 0, .int 0, .int 0, .int 0, .int 0])), (q1, .inl (cI, 82, .inl (fun _ => 0))), (q2, .inl (cI, 82, .inl (fun _ => 0))), (q3, .inl (cI, 82, .inl (fun _ => 0))), (q4, .inl (cI, 82, .inl (fun _ => 0))), (q5, .inl (cI, 8, .inl (fun _ => 0))), (q6, .inl (cI, 120, .inl (fun _ => 0))), (q7, .inl (cI, 4, .inl (upd (upd (upd (upd (fun _ => 0) 0 (-1)) 1 (-1)) 2 (-1)) 3 (-1))))] := hD
  rw [x_06] at hP hD
  refine va_putF hx hb hts in_X13 tyX13 tyX13_ok nmX13 hown hK hP hD hS 0 rfl rfl 8 (by decide) (hts _ q1243) (fun _ h => h) rfl hin rfl (tyX13_ok 8 (by decide)) rfl rfl (Nat.le_of_ble_eq_true rfl) dX13_init_72 (fun H locs hP hD hS => ?_)
  have hP : va_P D gC [(o, .inr (0, [.ref q1, .ref q2, .ref q3, .ref q4, .int 0, .ref q5, .ref q6, .int 0, .ref q7, .null, .null, .int 0, .int 0, .int 0, .int 0, .int 0, .int 0, .int 0])), (q1, .inl (cI, 82, .inl (fun _ => 0))), (q2, .inl (cI, 82, .inl (fun _ => 0))), (q3, .inl (cI, 82, .inl (fun _ => 0))), (q4, .inl (cI, 82, .inl (fun _ => 0))), (q5, .inl (cI, 8, .inl (fun _ => 0))), (q6, .inl (cI, 120, .inl (fun _ => 0))), (q7, .inl (cI, 4, .inl (x_0 6)))] H := hP
  have hD : va_D A [(o, .inr (0, [.ref q1, .ref q2, .ref q3, .ref q4, .int 0, .ref q5, .ref q6, .int 0, .ref q7, .null, .null, .int 0, .int 0, .int 0, .int 0, .int 0, .int 0, .int 0])), (q1, .inl (cI, 82, .inl (fun _ => 0))), (q2, .inl (cI, 82, .inl (fun _ => 0))), (q3, .inl (cI, 82, .inl (fun _ => 0))), (q4, .inl (cI, 82, .inl (fun _ => 0))), (q5, .inl (cI, 8, .inl (fun _ => 0))), (q6, .inl (cI, 120, .inl (fun _ => 0))), (q7, .inl (cI, 4, .inl (x_0 6)))] := hD
  refine lv_aload_n hx hb dX13_init_75 rfl (lv_at hl 0 rfl) ?_
  refine lv_iconst (v := 4) hx hb dX13_init_76 (by decide) ?_
  refine kn_newi S hK hP hD hS hA 4 (by decide) rfl (by decide) (Nat.le_of_ble_eq_true rfl) (Nat.le_of_ble_eq_true rfl) dX13_init_77 (fun q8 H hP hD hS => ?_)
  have hP : va_P D gC [(o, .inr (0, [.ref q1, .ref q2, .ref q3, .ref q4, .int 0, .ref q5, .ref q6, .int 0, .ref q7, .null, .null, .int 0, .int 0, .int 0, .int 0, .int 0, .int 0, .int 0])), (q1, .inl (cI, 82, .inl (fun _ => 0))), (q2, .inl (cI, 82, .inl (fun _ => 0))), (q3, .inl (cI, 82, .inl (fun _ => 0))), (q4, .inl (cI, 82, .inl (fun _ => 0))), (q5, .inl (cI, 8, .inl (fun _ => 0))), (q6, .inl (cI, 120, .inl (fun _ => 0))), (q7, .inl (cI, 4, .inl (x_0 6))), (q8, .inl (cI, 4, .inl (fun _ => 0)))] H := hP
  have hD : va_D A [(o, .inr (0, [.ref q1, .ref q2, .ref q3, .ref q4, .int 0, .ref q5, .ref q6, .int 0, .ref q7, .null, .null, .int 0, .int 0, .int 0, .int 0, .int 0, .int 0, .int 0])), (q1, .inl (cI, 82, .inl (fun _ => 0))), (q2, .inl (cI, 82, .inl (fun _ => 0))), (q3, .inl (cI, 82, .inl (fun _ => 0))), (q4, .inl (cI, 82, .inl (fun _ => 0))), (q5, .inl (cI, 8, .inl (fun _ => 0))), (q6, .inl (cI, 120, .inl (fun _ => 0))), (q7, .inl (cI, 4, .inl (x_0 6))), (q8, .inl (cI, 4, .inl (fun _ => 0)))] := hD
  refine va_putF hx hb hts in_X13 tyX13 tyX13_ok nmX13 hown hK hP hD hS 0 rfl rfl 9 (by decide) (hts _ q1244) (fun _ h => h) rfl hin rfl (tyX13_ok 9 (by decide)) rfl rfl (Nat.le_of_ble_eq_true rfl) dX13_init_79 (fun H locs hP hD hS => ?_)
  have hP : va_P D gC [(o, .inr (0, [.ref q1, .ref q2, .ref q3, .ref q4, .int 0, .ref q5, .ref q6, .int 0, .ref q7, .ref q8, .null, .int 0, .int 0, .int 0, .int 0, .int 0, .int 0, .int 0])), (q1, .inl (cI, 82, .inl (fun _ => 0))), (q2, .inl (cI, 82, .inl (fun _ => 0))), (q3, .inl (cI, 82, .inl (fun _ => 0))), (q4, .inl (cI, 82, .inl (fun _ => 0))), (q5, .inl (cI, 8, .inl (fun _ => 0))), (q6, .inl (cI, 120, .inl (fun _ => 0))), (q7, .inl (cI, 4, .inl (x_0 6))), (q8, .inl (cI, 4, .inl (fun _ => 0)))] H := hP
  have hD : va_D A [(o, .inr (0, [.ref q1, .ref q2, .ref q3, .ref q4, .int 0, .ref q5, .ref q6, .int 0, .ref q7, .ref q8, .null, .int 0, .int 0, .int 0, .int 0, .int 0, .int 0, .int 0])), (q1, .inl (cI, 82, .inl (fun _ => 0))), (q2, .inl (cI, 82, .inl (fun _ => 0))), (q3, .inl (cI, 82, .inl (fun _ => 0))), (q4, .inl (cI, 82, .inl (fun _ => 0))), (q5, .inl (cI, 8, .inl (fun _ => 0))), (q6, .inl (cI, 120, .inl (fun _ => 0))), (q7, .inl (cI, 4, .inl (x_0 6))), (q8, .inl (cI, 4, .inl (fun _ => 0)))] := hD
  refine lv_aload_n hx hb dX13_init_82 rfl (lv_at hl 0 rfl) ?_
  refine lv_sipush (v := 160) hx hb dX13_init_83 (by decide) ?_
  refine kn_newi S hK hP hD hS hA 160 (by decide) rfl (by decide) (Nat.le_of_ble_eq_true rfl) (Nat.le_of_ble_eq_true rfl) dX13_init_86 (fun q9 H hP hD hS => ?_)
  have hP : va_P D gC [(o, .inr (0, [.ref q1, .ref q2, .ref q3, .ref q4, .int 0, .ref q5, .ref q6, .int 0, .ref q7, .ref q8, .null, .int 0, .int 0, .int 0, .int 0, .int 0, .int 0, .int 0])), (q1, .inl (cI, 82, .inl (fun _ => 0))), (q2, .inl (cI, 82, .inl (fun _ => 0))), (q3, .inl (cI, 82, .inl (fun _ => 0))), (q4, .inl (cI, 82, .inl (fun _ => 0))), (q5, .inl (cI, 8, .inl (fun _ => 0))), (q6, .inl (cI, 120, .inl (fun _ => 0))), (q7, .inl (cI, 4, .inl (x_0 6))), (q8, .inl (cI, 4, .inl (fun _ => 0))), (q9, .inl (cI, 160, .inl (fun _ => 0)))] H := hP
  have hD : va_D A [(o, .inr (0, [.ref q1, .ref q2, .ref q3, .ref q4, .int 0, .ref q5, .ref q6, .int 0, .ref q7, .ref q8, .null, .int 0, .int 0, .int 0, .int 0, .int 0, .int 0, .int 0])), (q1, .inl (cI, 82, .inl (fun _ => 0))), (q2, .inl (cI, 82, .inl (fun _ => 0))), (q3, .inl (cI, 82, .inl (fun _ => 0))), (q4, .inl (cI, 82, .inl (fun _ => 0))), (q5, .inl (cI, 8, .inl (fun _ => 0))), (q6, .inl (cI, 120, .inl (fun _ => 0))), (q7, .inl (cI, 4, .inl (x_0 6))), (q8, .inl (cI, 4, .inl (fun _ => 0))), (q9, .inl (cI, 160, .inl (fun _ => 0)))] := hD
  refine va_putF hx hb hts in_X13 tyX13 tyX13_ok nmX13 hown hK hP hD hS 0 rfl rfl 10 (by decide) (hts _ q1245) (fun _ h => h) rfl hin rfl (tyX13_ok 10 (by decide)) rfl rfl (Nat.le_of_ble_eq_true rfl) dX13_init_88 (fun H locs hP hD hS => ?_)
  have hP : va_P D gC [(o, .inr (0, [.ref q1, .ref q2, .ref q3, .ref q4, .int 0, .ref q5, .ref q6, .int 0, .ref q7, .ref q8, .ref q9, .int 0, .int 0, .int 0, .int 0, .int 0, .int 0, .int 0])), (q1, .inl (cI, 82, .inl (fun _ => 0))), (q2, .inl (cI, 82, .inl (fun _ => 0))), (q3, .inl (cI, 82, .inl (fun _ => 0))), (q4, .inl (cI, 82, .inl (fun _ => 0))), (q5, .inl (cI, 8, .inl (fun _ => 0))), (q6, .inl (cI, 120, .inl (fun _ => 0))), (q7, .inl (cI, 4, .inl (x_0 6))), (q8, .inl (cI, 4, .inl (fun _ => 0))), (q9, .inl (cI, 160, .inl (fun _ => 0)))] H := hP
  have hD : va_D A [(o, .inr (0, [.ref q1, .ref q2, .ref q3, .ref q4, .int 0, .ref q5, .ref q6, .int 0, .ref q7, .ref q8, .ref q9, .int 0, .int 0, .int 0, .int 0, .int 0, .int 0, .int 0])), (q1, .inl (cI, 82, .inl (fun _ => 0))), (q2, .inl (cI, 82, .inl (fun _ => 0))), (q3, .inl (cI, 82, .inl (fun _ => 0))), (q4, .inl (cI, 82, .inl (fun _ => 0))), (q5, .inl (cI, 8, .inl (fun _ => 0))), (q6, .inl (cI, 120, .inl (fun _ => 0))), (q7, .inl (cI, 4, .inl (x_0 6))), (q8, .inl (cI, 4, .inl (fun _ => 0))), (q9, .inl (cI, 160, .inl (fun _ => 0)))] := hD
  refine lv_aload_n hx hb dX13_init_91 rfl (lv_at hl 0 rfl) ?_
  refine va_get hx hb hts in_X13 hown hK hP 0 rfl rfl 0 (by decide) (hts _ q1235) (fun _ h => h) rfl dX13_init_92 ?_
  refine lv_iconst (v := 2) hx hb dX13_init_95 (by decide) ?_
  refine lv_iconst (v := 1) hx hb dX13_init_96 (by decide) ?_
  refine va_iast hx hb hK hP hD hS 1 0 rfl rfl (vp_in_nI (n := 2) (by decide) (by decide)) dX13_init_97 (fun H locs hP hD hS => ?_)
  have hP : va_P D gC [(o, .inr (0, [.ref q1, .ref q2, .ref q3, .ref q4, .int 0, .ref q5, .ref q6, .int 0, .ref q7, .ref q8, .ref q9, .int 0, .int 0, .int 0, .int 0, .int 0, .int 0, .int 0])), (q1, .inl (cI, 82, .inl (upd (fun _ => 0) 2 1))), (q2, .inl (cI, 82, .inl (fun _ => 0))), (q3, .inl (cI, 82, .inl (fun _ => 0))), (q4, .inl (cI, 82, .inl (fun _ => 0))), (q5, .inl (cI, 8, .inl (fun _ => 0))), (q6, .inl (cI, 120, .inl (fun _ => 0))), (q7, .inl (cI, 4, .inl (x_0 6))), (q8, .inl (cI, 4, .inl (fun _ => 0))), (q9, .inl (cI, 160, .inl (fun _ => 0)))] H := hP
  have hD : va_D A [(o, .inr (0, [.ref q1, .ref q2, .ref q3, .ref q4, .int 0, .ref q5, .ref q6, .int 0, .ref q7, .ref q8, .ref q9, .int 0, .int 0, .int 0, .int 0, .int 0, .int 0, .int 0])), (q1, .inl (cI, 82, .inl (upd (fun _ => 0) 2 1))), (q2, .inl (cI, 82, .inl (fun _ => 0))), (q3, .inl (cI, 82, .inl (fun _ => 0))), (q4, .inl (cI, 82, .inl (fun _ => 0))), (q5, .inl (cI, 8, .inl (fun _ => 0))), (q6, .inl (cI, 120, .inl (fun _ => 0))), (q7, .inl (cI, 4, .inl (x_0 6))), (q8, .inl (cI, 4, .inl (fun _ => 0))), (q9, .inl (cI, 160, .inl (fun _ => 0)))] := hD
  rw [r_ab0] at hP hD
  refine lv_iconst (v := 0) hx hb dX13_init_98 (by decide) ?_
  refine lv_istore_n (lv' := [(1, .int 0), (0, .ref o)]) hx hb dX13_init_99 rfl hl (by decide) rfl (fun ls hl => ?_)
  have h147 : ∀ (H : Heap) (locs : List Loc) (ls : Array Slot), va_P D gC [(o, .inr (0, [.ref q1, .ref q2, .ref q3, .ref q4, .int 0, .ref q5, .ref q6, .int 0, .ref q7, .ref q8, .ref q9, .int 0, .int 0, .int 0, .int 0, .int 0, .int 0, .int 0])), (q1, .inl (cI, 82, .inl (r_0))), (q2, .inl (cI, 82, .inl (fun _ => 0))), (q3, .inl (cI, 82, .inl (fun _ => 0))), (q4, .inl (cI, 82, .inl (fun _ => 0))), (q5, .inl (cI, 8, .inl (fun _ => 0))), (q6, .inl (cI, 120, .inl (fun _ => 0))), (q7, .inl (cI, 4, .inl (x_0 6))), (q8, .inl (cI, 4, .inl (fun _ => 0))), (q9, .inl (cI, 160, .inl (fun _ => 0)))] H → va_D A [(o, .inr (0, [.ref q1, .ref q2, .ref q3, .ref q4, .int 0, .ref q5, .ref q6, .int 0, .ref q7, .ref q8, .ref q9, .int 0, .int 0, .int 0, .int 0, .int 0, .int 0, .int 0])), (q1, .inl (cI, 82, .inl (r_0))), (q2, .inl (cI, 82, .inl (fun _ => 0))), (q3, .inl (cI, 82, .inl (fun _ => 0))), (q4, .inl (cI, 82, .inl (fun _ => 0))), (q5, .inl (cI, 8, .inl (fun _ => 0))), (q6, .inl (cI, 120, .inl (fun _ => 0))), (q7, .inl (cI, 4, .inl (x_0 6))), (q8, .inl (cI, 4, .inl (fun _ => 0))), (q9, .inl (cI, 160, .inl (fun _ => 0)))] → va_S A s.heap H locs → W p l e { frames := 1, cells := 9, slots := 624, locals := 38 } s m [Value.ref o].toArray below meth c H locs 9 624 (MQ below (mIQ D cI o s.heap.size) [Value.ref o].toArray s 9 624 A) (F0 m 147 ls []) := by
    intro H locs ls hP hD hS
    have hw : ∀ j, j < 10 → ([(o, .inr (0, [.ref q1, .ref q2, .ref q3, .ref q4, .int 0, .ref q5, .ref q6, .int 0, .ref q7, .ref q8, .ref q9, .int 0, .int 0, .int 0, .int 0, .int 0, .int 0, .int 0])), (q1, .inl (cI, 82, .inl (r_0))), (q2, .inl (cI, 82, .inl (fun _ => 0))), (q3, .inl (cI, 82, .inl (fun _ => 0))), (q4, .inl (cI, 82, .inl (fun _ => 0))), (q5, .inl (cI, 8, .inl (fun _ => 0))), (q6, .inl (cI, 120, .inl (fun _ => 0))), (q7, .inl (cI, 4, .inl (x_0 6))), (q8, .inl (cI, 4, .inl (fun _ => 0))), (q9, .inl (cI, 160, .inl (fun _ => 0)))] : va_W)[j]? = some ((fun j => match j with | 0 => o | 1 => q1 | 2 => q2 | 3 => q3 | 4 => q4 | 5 => q5 | 6 => q6 | 7 => q7 | 8 => q8 | _ => q9) j, mE (D, (fun j => match j with | 0 => o | 1 => q1 | 2 => q2 | 3 => q3 | 4 => q4 | 5 => q5 | 6 => q6 | 7 => q7 | 8 => q8 | _ => q9), cI) r_0 x_0 j) := by
      intro j hj
      match j, hj with
      | 0, _ => rfl
      | 1, _ => rfl
      | 2, _ => rfl
      | 3, _ => rfl
      | 4, _ => rfl
      | 5, _ => rfl
      | 6, _ => rfl
      | 7, _ => rfl
      | 8, _ => rfl
      | 9, _ => rfl
      | n + 10, h => exact absurd h (by omega)
    refine W.vret hx hb hr (fun t ht hW => ⟨rfl, ⟨(fun j => match j with | 0 => o | 1 => q1 | 2 => q2 | 3 => q3 | 4 => q4 | 5 => q5 | 6 => q6 | 7 => q7 | 8 => q8 | _ => q9), rfl, fun j h0 hj => ?_, ⟨va_K.moved hW.alike hK, fun i j hi hj hij => hD.1 i j _ _ (hw i hi) (hw j hj) hij⟩, fun j hj => ?_⟩, ?_⟩) hS.2.2 dX13_init_147
    · have h1 := hD.2 j _ (hw j hj)
      rw [← hAe] at h1
      exact h1.resolve_left (fun h => absurd (hD.1 j 0 _ _ (hw j hj) (hw 0 (by decide)) h) (by omega))
    · rw [ht]; exact hP j _ (hw j hj)
    · rw [hAe]; exact hS.F ht
  have h125 : ∀ (j k : Nat) (H : Heap) (locs : List Loc) (ls : Array Slot), k + j = 10 → va_P D gC [(o, .inr (0, [.ref q1, .ref q2, .ref q3, .ref q4, .int 0, .ref q5, .ref q6, .int 0, .ref q7, .ref q8, .ref q9, .int 0, .int 0, .int 0, .int 0, .int 0, .int 0, .int 0])), (q1, .inl (cI, 82, .inl (r_ab 6 k))), (q2, .inl (cI, 82, .inl (fun _ => 0))), (q3, .inl (cI, 82, .inl (fun _ => 0))), (q4, .inl (cI, 82, .inl (fun _ => 0))), (q5, .inl (cI, 8, .inl (fun _ => 0))), (q6, .inl (cI, 120, .inl (fun _ => 0))), (q7, .inl (cI, 4, .inl (x_0 6))), (q8, .inl (cI, 4, .inl (fun _ => 0))), (q9, .inl (cI, 160, .inl (fun _ => 0)))] H → va_D A [(o, .inr (0, [.ref q1, .ref q2, .ref q3, .ref q4, .int 0, .ref q5, .ref q6, .int 0, .ref q7, .ref q8, .ref q9, .int 0, .int 0, .int 0, .int 0, .int 0, .int 0, .int 0])), (q1, .inl (cI, 82, .inl (r_ab 6 k))), (q2, .inl (cI, 82, .inl (fun _ => 0))), (q3, .inl (cI, 82, .inl (fun _ => 0))), (q4, .inl (cI, 82, .inl (fun _ => 0))), (q5, .inl (cI, 8, .inl (fun _ => 0))), (q6, .inl (cI, 120, .inl (fun _ => 0))), (q7, .inl (cI, 4, .inl (x_0 6))), (q8, .inl (cI, 4, .inl (fun _ => 0))), (q9, .inl (cI, 160, .inl (fun _ => 0)))] → va_S A s.heap H locs → lv_has ls 2 [(1, .int (nI k)), (0, .ref o)] → W p l e { frames := 1, cells := 9, slots := 624, locals := 38 } s m [Value.ref o].toArray below meth c H locs 9 624 (MQ below (mIQ D cI o s.heap.size) [Value.ref o].toArray s 9 624 A) (F0 m 125 ls []) := by
    intro j
    induction j with
    | zero =>
      intro k H locs ls hkj hP hD hS hl
      obtain rfl : k = 10 := by omega
      refine lv_iload_n hx hb dX13_init_125 rfl (lv_at hl 0 rfl) ?_
      refine lv_bipush (v := 10) hx hb dX13_init_126 (by decide) ?_
      refine lv_icmp_ge (tgt := 147) hx hb dX13_init_128 (by decide) (fun c_1 => ?_) (fun c_1 => absurd (by decide) c_1)
      rw [r_abz] at hP hD
      exact h147 H locs ls hP hD hS
    | succ j ih =>
      intro k H locs ls hkj hP hD hS hl
      refine lv_iload_n hx hb dX13_init_125 rfl (lv_at hl 0 rfl) ?_
      refine lv_bipush (v := 10) hx hb dX13_init_126 (by decide) ?_
      refine kb_ge_n (tgt := 147) (a := k) (b := 10) S rfl rfl (by omega) (by omega) dX13_init_128 (by decide) (fun c_1 => absurd c_1 (by omega)) (fun c_1 => ?_)
      refine lv_aload_n hx hb dX13_init_131 rfl (lv_at hl 1 rfl) ?_
      refine va_get hx hb hts in_X13 hown hK hP 0 rfl rfl 0 (by decide) (hts _ q1235) (fun _ h => h) rfl dX13_init_132 ?_
      refine lv_bipush (v := 72) hx hb dX13_init_135 (by decide) ?_
      refine lv_iload_n hx hb dX13_init_137 rfl (lv_at hl 0 rfl) ?_
      refine lv_iadd hx hb dX13_init_138 ?_
      refine lv_iconst (v := (-1)) hx hb dX13_init_139 (by decide) ?_
      have hi : (72 : Int32) + nI k = nI (72 + k) := nn_add rfl rfl
      have hn : ((72 : Int32) + nI k).toNatClampNeg = 72 + k := by rw [hi]; exact nI_clamp (by omega)
      refine va_iast hx hb hK hP hD hS 1 0 rfl rfl (by rw [hi]; exact vp_in_nI (by omega) (by decide)) dX13_init_140 (fun H locs hP hD hS => ?_)
      rw [hn] at hP hD
      have hP : va_P D gC [(o, .inr (0, [.ref q1, .ref q2, .ref q3, .ref q4, .int 0, .ref q5, .ref q6, .int 0, .ref q7, .ref q8, .ref q9, .int 0, .int 0, .int 0, .int 0, .int 0, .int 0, .int 0])), (q1, .inl (cI, 82, .inl (upd (r_ab 6 k) (72 + k) (-1)))), (q2, .inl (cI, 82, .inl (fun _ => 0))), (q3, .inl (cI, 82, .inl (fun _ => 0))), (q4, .inl (cI, 82, .inl (fun _ => 0))), (q5, .inl (cI, 8, .inl (fun _ => 0))), (q6, .inl (cI, 120, .inl (fun _ => 0))), (q7, .inl (cI, 4, .inl (x_0 6))), (q8, .inl (cI, 4, .inl (fun _ => 0))), (q9, .inl (cI, 160, .inl (fun _ => 0)))] H := hP
      have hD : va_D A [(o, .inr (0, [.ref q1, .ref q2, .ref q3, .ref q4, .int 0, .ref q5, .ref q6, .int 0, .ref q7, .ref q8, .ref q9, .int 0, .int 0, .int 0, .int 0, .int 0, .int 0, .int 0])), (q1, .inl (cI, 82, .inl (upd (r_ab 6 k) (72 + k) (-1)))), (q2, .inl (cI, 82, .inl (fun _ => 0))), (q3, .inl (cI, 82, .inl (fun _ => 0))), (q4, .inl (cI, 82, .inl (fun _ => 0))), (q5, .inl (cI, 8, .inl (fun _ => 0))), (q6, .inl (cI, 120, .inl (fun _ => 0))), (q7, .inl (cI, 4, .inl (x_0 6))), (q8, .inl (cI, 4, .inl (fun _ => 0))), (q9, .inl (cI, 160, .inl (fun _ => 0)))] := hD
      rw [r_abb (by omega)] at hP hD
      refine lv_iinc (v := (nI (k + 1))) (lv' := [(1, .int (nI (k + 1))), (0, .ref o)]) hx hb dX13_init_141 hl (k := 0) rfl (nn_1 rfl) (by decide) rfl (fun ls hl => ?_)
      refine lv_goto (tgt := 125) hx hb dX13_init_144 (by decide) ?_
      exact ih (k + 1) H locs ls (by omega) hP hD hS hl
  have h100 : ∀ (j k : Nat) (H : Heap) (locs : List Loc) (ls : Array Slot), k + j = 6 → va_P D gC [(o, .inr (0, [.ref q1, .ref q2, .ref q3, .ref q4, .int 0, .ref q5, .ref q6, .int 0, .ref q7, .ref q8, .ref q9, .int 0, .int 0, .int 0, .int 0, .int 0, .int 0, .int 0])), (q1, .inl (cI, 82, .inl (r_ab k 0))), (q2, .inl (cI, 82, .inl (fun _ => 0))), (q3, .inl (cI, 82, .inl (fun _ => 0))), (q4, .inl (cI, 82, .inl (fun _ => 0))), (q5, .inl (cI, 8, .inl (fun _ => 0))), (q6, .inl (cI, 120, .inl (fun _ => 0))), (q7, .inl (cI, 4, .inl (x_0 6))), (q8, .inl (cI, 4, .inl (fun _ => 0))), (q9, .inl (cI, 160, .inl (fun _ => 0)))] H → va_D A [(o, .inr (0, [.ref q1, .ref q2, .ref q3, .ref q4, .int 0, .ref q5, .ref q6, .int 0, .ref q7, .ref q8, .ref q9, .int 0, .int 0, .int 0, .int 0, .int 0, .int 0, .int 0])), (q1, .inl (cI, 82, .inl (r_ab k 0))), (q2, .inl (cI, 82, .inl (fun _ => 0))), (q3, .inl (cI, 82, .inl (fun _ => 0))), (q4, .inl (cI, 82, .inl (fun _ => 0))), (q5, .inl (cI, 8, .inl (fun _ => 0))), (q6, .inl (cI, 120, .inl (fun _ => 0))), (q7, .inl (cI, 4, .inl (x_0 6))), (q8, .inl (cI, 4, .inl (fun _ => 0))), (q9, .inl (cI, 160, .inl (fun _ => 0)))] → va_S A s.heap H locs → lv_has ls 2 [(1, .int (nI k)), (0, .ref o)] → W p l e { frames := 1, cells := 9, slots := 624, locals := 38 } s m [Value.ref o].toArray below meth c H locs 9 624 (MQ below (mIQ D cI o s.heap.size) [Value.ref o].toArray s 9 624 A) (F0 m 100 ls []) := by
    intro j
    induction j with
    | zero =>
      intro k H locs ls hkj hP hD hS hl
      obtain rfl : k = 6 := by omega
      refine lv_iload_n hx hb dX13_init_100 rfl (lv_at hl 0 rfl) ?_
      refine lv_bipush (v := 6) hx hb dX13_init_101 (by decide) ?_
      refine lv_icmp_ge (tgt := 123) hx hb dX13_init_103 (by decide) (fun c_1 => ?_) (fun c_1 => absurd (by decide) c_1)
      refine lv_iconst (v := 0) hx hb dX13_init_123 (by decide) ?_
      refine lv_istore_n (lv' := [(1, .int 0), (0, .ref o)]) hx hb dX13_init_124 rfl hl (by decide) rfl (fun ls hl => ?_)
      exact h125 10 0 H locs ls rfl hP hD hS hl
    | succ j ih =>
      intro k H locs ls hkj hP hD hS hl
      refine lv_iload_n hx hb dX13_init_100 rfl (lv_at hl 0 rfl) ?_
      refine lv_bipush (v := 6) hx hb dX13_init_101 (by decide) ?_
      refine kb_ge_n (tgt := 123) (a := k) (b := 6) S rfl rfl (by omega) (by omega) dX13_init_103 (by decide) (fun c_1 => absurd c_1 (by omega)) (fun c_1 => ?_)
      refine lv_aload_n hx hb dX13_init_106 rfl (lv_at hl 1 rfl) ?_
      refine va_get hx hb hts in_X13 hown hK hP 0 rfl rfl 0 (by decide) (hts _ q1235) (fun _ h => h) rfl dX13_init_107 ?_
      refine lv_bipush (v := 10) hx hb dX13_init_110 (by decide) ?_
      refine lv_iload_n hx hb dX13_init_112 rfl (lv_at hl 0 rfl) ?_
      refine lv_iadd hx hb dX13_init_113 ?_
      refine lv_bipush (v := 10) hx hb dX13_init_114 (by decide) ?_
      have hi : (10 : Int32) + nI k = nI (10 + k) := nn_add rfl rfl
      have hn : ((10 : Int32) + nI k).toNatClampNeg = 10 + k := by rw [hi]; exact nI_clamp (by omega)
      refine va_iast hx hb hK hP hD hS 1 0 rfl rfl (by rw [hi]; exact vp_in_nI (by omega) (by decide)) dX13_init_116 (fun H locs hP hD hS => ?_)
      rw [hn] at hP hD
      have hP : va_P D gC [(o, .inr (0, [.ref q1, .ref q2, .ref q3, .ref q4, .int 0, .ref q5, .ref q6, .int 0, .ref q7, .ref q8, .ref q9, .int 0, .int 0, .int 0, .int 0, .int 0, .int 0, .int 0])), (q1, .inl (cI, 82, .inl (upd (r_ab k 0) (10 + k) 10))), (q2, .inl (cI, 82, .inl (fun _ => 0))), (q3, .inl (cI, 82, .inl (fun _ => 0))), (q4, .inl (cI, 82, .inl (fun _ => 0))), (q5, .inl (cI, 8, .inl (fun _ => 0))), (q6, .inl (cI, 120, .inl (fun _ => 0))), (q7, .inl (cI, 4, .inl (x_0 6))), (q8, .inl (cI, 4, .inl (fun _ => 0))), (q9, .inl (cI, 160, .inl (fun _ => 0)))] H := hP
      have hD : va_D A [(o, .inr (0, [.ref q1, .ref q2, .ref q3, .ref q4, .int 0, .ref q5, .ref q6, .int 0, .ref q7, .ref q8, .ref q9, .int 0, .int 0, .int 0, .int 0, .int 0, .int 0, .int 0])), (q1, .inl (cI, 82, .inl (upd (r_ab k 0) (10 + k) 10))), (q2, .inl (cI, 82, .inl (fun _ => 0))), (q3, .inl (cI, 82, .inl (fun _ => 0))), (q4, .inl (cI, 82, .inl (fun _ => 0))), (q5, .inl (cI, 8, .inl (fun _ => 0))), (q6, .inl (cI, 120, .inl (fun _ => 0))), (q7, .inl (cI, 4, .inl (x_0 6))), (q8, .inl (cI, 4, .inl (fun _ => 0))), (q9, .inl (cI, 160, .inl (fun _ => 0)))] := hD
      rw [r_aba (by omega)] at hP hD
      refine lv_iinc (v := (nI (k + 1))) (lv' := [(1, .int (nI (k + 1))), (0, .ref o)]) hx hb dX13_init_117 hl (k := 0) rfl (nn_1 rfl) (by decide) rfl (fun ls hl => ?_)
      refine lv_goto (tgt := 100) hx hb dX13_init_120 (by decide) ?_
      exact ih (k + 1) H locs ls (by omega) hP hD hS hl
  exact h100 6 0 H locs ls rfl hP hD hS hl

/-! ROWS COPIED -/
theorem cell_congr {cI : ClassId} {n : Nat} {f g : Rw} (h : ∀ j, j < n → f j = g j) : vp_cell cI (n, .inl f) = vp_cell cI (n, .inl g) := by
  rw [vp_cell_i, vp_cell_i]
  unfold arrV
  congr 1
  exact congrArg _ (funext fun j => congrArg Value.int (h j.val j.isLt))
theorem mW.set2 {t : MT} {r r' : Rw} {x x' : Nat → Rw} {H H1 : Heap} {s : State} (hP : mW t r x H) (hK : mK t s) {i : Nat} (hi : i < 10) (he : va_at t.1 gC (t.2.1 i, mE t r' x' i) H1) (oq : ∀ q : Nat, q < H.size → ¬ q = t.2.1 i → H1[q]? = H[q]?) (hn : ∀ j, j < 10 → j ≠ i → mE t r' x' j = mE t r x j) : mW t r' x' H1 := by
  intro j hj
  by_cases hji : j = i
  · subst hji; exact he
  · rw [hn j hj hji]
    exact (hP j hj).kept (oq _ (hP j hj).lt (fun z => hji (hK.2 j i hj hi z)))
section KA
variable {p : Program} {l : Launch} {e : Env} {R : Room} {s : State} {m : MethodId} {args : Array Value} {below : List Frame} {meth : Method} {c : Code} {H H0 : Heap} {locs : List Loc} {cells slots : Nat} {Q : State → Prop}
variable {cc : ByteArray} {pc nL : Nat} {ls : Array Slot} {rest : List Value} {own : String} {D : va_G} {cl : List vw_C} {cI : ClassId} {A : Nat → Prop} {tys : List (ClassId × FieldType)}
/-- an int array by its address: load, store -/
theorem ka_ld (S : CallFix p m c cc nL s args lw_all own) (hK : va_K D cl ((cI, .int) :: tys) s) {a n : Nat} {f : Rw} (ha : H[a]? = some (vp_cell cI (n, .inl f))) (k : Nat) (hk : k < n) (hn : n < 2 ^ 31) {i : Int32} (hi : i = nI k) (hdg : decode cc pc = .ok (.iaload, 1))
    (kk : W p l e R s m args below meth c H locs cells slots Q (F0 m (pc + 1) ls (.int (f k) :: rest))) : W p l e R s m args below meth c H locs cells slots Q (F0 m pc ls (.int i :: .ref a :: rest)) := by
  have hP1 : va_P D cl [(a, .inl (cI, n, .inl f))] H := fun k q hq => by
    match k, hq with
    | 0, hq => cases hq; exact ha
    | k + 1, hq => simp at hq
  refine va_iald S.1 S.2.1 hK hP1 0 0 rfl rfl (by rw [hi]; exact vp_in_nI hk hn) hdg ?_
  rw [hi, nI_clamp (by omega)]
  exact kk
theorem ka_st (S : CallFix p m c cc nL s args lw_all own) (hK : va_K D cl ((cI, .int) :: tys) s) (hS : va_S A H0 H locs) {a n : Nat} {f : Rw} (ha : H[a]? = some (vp_cell cI (n, .inl f))) (hA : A a) (k : Nat) (hk : k < n) (hn : n < 2 ^ 31) {i v : Int32} (hi : i = nI k) (hdg : decode cc pc = .ok (.iastore, 1))
    (kk : ∀ (H1 : Heap) (locs1 : List Loc), H1[a]? = some (vp_cell cI (n, .inl (upd f k v))) → H1.size = H.size → (∀ q : Nat, q ≠ a → H1[q]? = H[q]?) → va_S A H0 H1 locs1 → W p l e R s m args below meth c H1 locs1 cells slots Q (F0 m (pc + 1) ls rest)) : W p l e R s m args below meth c H locs cells slots Q (F0 m pc ls (.int v :: .int i :: .ref a :: rest)) := by
  refine W.iast S.1 S.2.1 ha ((hK.2 0 _ rfl).1 n (fun j => .int (f j))) (fun q => by cases q) (by show ¬ (i < 0 ∨ (arrV _ _ _).slots.size ≤ _); rw [arrV_size, hi]; exact vp_in_nI hk hn) rfl rfl hdg fun H1 e z oq => ?_
  refine kk H1 _ ?_ z oq (hS.put z oq hA)
  rw [e, hi, nI_clamp (by omega), vp_cell_i, vp_cell_i, arrV_store]
  congr 2
  funext q
  by_cases hq : q = k
  · subst hq; simp [updV, upd]
  · simp [updV, upd, hq]
end KA
set_option maxHeartbeats 4000000 in
set_option maxRecDepth 100000 in
theorem k_copyRow (l : Launch) (t : MT) (A B : Nat) (f g : Rw) (hAB : A ≠ B) : Met l yX13_copyRow (ws_ yX13_copyRow cX13_copyRow 3 none) (rmF 0) (va_Pc [.ref A, .ref B] (fun U => va_K t.1 gC [(t.2.2, .int)] U ∧ U.heap[A]? = some (vp_cell t.2.2 (82, .inl f)) ∧ U.heap[B]? = some (vp_cell t.2.2 (82, .inl g)))) (kW none (fun H => H[B]? = some (vp_cell t.2.2 (82, .inl f))) (fun q => q = B)) 0 0 (fun q => q = B) := by
  refine kk_start (by decide) (Nat.le_of_ble_eq_true rfl) ?_
  intro p e s m below meth c S hr hlk hin hB ls hl
  obtain ⟨hK, hf, hg⟩ := hB
  have hx := S.1
  have hb := S.2.1
  have hS : va_S (fun q => q = B) s.heap s.heap [] := va_S.rf
  have hl : lv_has ls 3 [(0, .ref A), (1, .ref B)] := hl
  refine lv_iconst (v := 0) hx hb dX13_copyRow_0 (by decide) ?_
  refine lv_istore_n (lv' := [(2, .int 0), (0, .ref A), (1, .ref B)]) hx hb dX13_copyRow_1 rfl hl (by decide) rfl (fun ls hl => ?_)
  have lp_2 : ∀ (j k : Nat) (g1 : Rw) (H : Heap) (locs : List Loc) (ls : Array Slot), k + j = 82 → (∀ i, i < k → g1 i = f i) → H[A]? = some (vp_cell t.2.2 (82, .inl f)) → H[B]? = some (vp_cell t.2.2 (82, .inl g1)) → va_S (fun q => q = B) s.heap H locs → lv_has ls 3 [(0, .ref A), (1, .ref B), (2, .int (nI k))] → W p l e (rmF 0) s m ([.ref A, .ref B] : List Value).toArray below meth c H locs 0 0 (MQ below (kW none (fun H => H[B]? = some (vp_cell t.2.2 (82, .inl f))) (fun q => q = B)) ([.ref A, .ref B] : List Value).toArray s 0 0 (fun q => q = B)) (F0 m 2 ls []) := by
    intro j
    induction j with
    | zero =>
      intro k g1 H locs ls hkj hfg hA hB hS hl
      refine lv_iload_n hx hb dX13_copyRow_2 rfl (lv_at hl 2 rfl) ?_
      refine lv_bipush (v := 82) hx hb dX13_copyRow_3 (by decide) ?_
      refine kb_ge_n (tgt := 20) (a := k) (b := 82) S rfl rfl (by omega) (by omega) dX13_copyRow_5 (by decide) (fun c_5 => ?_) (fun c_5 => ?_)
      · exact kk_vretW S hr hlk hS (by rw [hB, cell_congr (fun j hj => hfg j (by omega))]) dX13_copyRow_20
      · exact absurd c_5 (by omega)
    | succ j ih =>
      intro k g1 H locs ls hkj hfg hA hB hS hl
      refine lv_iload_n hx hb dX13_copyRow_2 rfl (lv_at hl 2 rfl) ?_
      refine lv_bipush (v := 82) hx hb dX13_copyRow_3 (by decide) ?_
      refine kb_ge_n (tgt := 20) (a := k) (b := 82) S rfl rfl (by omega) (by omega) dX13_copyRow_5 (by decide) (fun c_5 => ?_) (fun c_5 => ?_)
      · exact absurd c_5 (by omega)
      · refine lv_aload_n hx hb dX13_copyRow_8 rfl (lv_at hl 1 rfl) ?_
        refine lv_iload_n hx hb dX13_copyRow_9 rfl (lv_at hl 2 rfl) ?_
        refine lv_aload_n hx hb dX13_copyRow_10 rfl (lv_at hl 0 rfl) ?_
        refine lv_iload_n hx hb dX13_copyRow_11 rfl (lv_at hl 2 rfl) ?_
        refine ka_ld S hK hA k (by omega) (by decide) rfl dX13_copyRow_12 ?_
        refine ka_st S hK hS hB rfl k (by omega) (by decide) rfl dX13_copyRow_13 (fun H locs hB hz oq hS => ?_)
        refine lv_iinc (v := (nI (k + 1))) (lv' := [(2, .int (nI (k + 1))), (0, .ref A), (1, .ref B)]) hx hb dX13_copyRow_14 hl (k := 2) rfl (nn_1 rfl) (by decide) rfl (fun ls hl => ?_)
        refine lv_goto (tgt := 2) hx hb dX13_copyRow_17 (by decide) ?_
        refine ih (k + 1) _ H locs ls (by omega) (fun i hi => ?_) ((oq A hAB).trans hA) hB hS (lv_sub hl [1, 2, 0] rfl)
        by_cases hik : i = k
        · rw [hik, up_s]
        · rw [up_n hik]; exact hfg i (by omega)
  exact lp_2 82 0 g s.heap [] ls (by decide) (fun i hi => absurd hi (Nat.not_lt_zero i)) hf hg hS (lv_sub hl [1, 2, 0] rfl)
section MCC
variable {p : Program} {l : Launch} {e : Env} {R : Room} {s : State} {m : MethodId} {args : Array Value} {below : List Frame} {meth : Method} {c : Code} {H H0 : Heap} {locs : List Loc} {cells slots : Nat} {Q : State → Prop}
variable {cc : ByteArray} {pc nL : Nat} {ls : Array Slot} {rest : List Value} {t : MT} {r : Rw} {x : Nat → Rw}
theorem c_copyRow_1_4 (S : CallFix p m c cc nL s args lw_all RX13) (hK : mK t s) (hP : mW t r x H) (hS : va_S (mA t) H0 H locs) (hR : kRm R 1 cells slots) (hsz : ls.size = nL) (hrest : (rest.map fun v => v.category).sum ≤ 8) (hdg : decode cc pc = .ok (.invokestatic 140, 3)) (kk : ∀ (H1 : Heap) (locs1 : List Loc), mW t r (va_up x 3 r) H1 → va_S (mA t) H0 H1 locs1 → W p l e R s m args below meth c H1 locs1 cells slots Q (F0 m (pc + 3) ls rest)) : W p l e R s m args below meth c H locs cells slots Q (F0 m pc ls (.ref (t.2.1 4) :: .ref (t.2.1 1) :: rest)) := by
  have hne : t.2.1 1 ≠ t.2.1 4 := fun z => absurd (hK.2 1 4 (by decide) (by decide) z) (by decide)
  refine kk_Wv (W.runS (As := [.ref (t.2.1 1), .ref (t.2.1 4)]) (rest := rest) S (k_copyRow l t (t.2.1 1) (t.2.1 4) r (x 3) hne) (va_cwS 2 S.2.2.2.2 (lw_S q1447 q1448 q117 q1449) rfl rfl rfl (by decide +kernel) ⟨hR.1, by have := hR.2.1; show 8 + (3 + 11) + 38 * 0 ≤ R.locals; omega⟩) ⟨fun a U g mk h => ⟨h.1, va_K.moved (U := U.calling g mk a) (Vm.Alike.refl U.vm) h.2.1, h.2.2⟩, fun U hU hW => ⟨rfl, hK.1.moved hW.alike, by rw [hU]; exact hP 1 (by decide), by rw [hU]; exact hP 4 (by decide)⟩⟩ rfl rfl hsz rfl (lv_room hrest) hdg ⟨hR.2.2.1, hR.2.2.2⟩) hS (fun q h => by rw [h]; exact mA.at t (by decide)) (fun q h => by rw [h]; exact mA.at t (by decide)) (fun H1 locs1 hB hz hk hS => ?_)
  exact kk H1 locs1 (hP.set2 hK (i := 4) (by decide) hB hk (mE_up3 _)) hS
theorem c_copyRow_4_1 (S : CallFix p m c cc nL s args lw_all RX13) (hK : mK t s) (hP : mW t r x H) (hS : va_S (mA t) H0 H locs) (hR : kRm R 1 cells slots) (hsz : ls.size = nL) (hrest : (rest.map fun v => v.category).sum ≤ 8) (hdg : decode cc pc = .ok (.invokestatic 140, 3)) (kk : ∀ (H1 : Heap) (locs1 : List Loc), mW t (x 3) x H1 → va_S (mA t) H0 H1 locs1 → W p l e R s m args below meth c H1 locs1 cells slots Q (F0 m (pc + 3) ls rest)) : W p l e R s m args below meth c H locs cells slots Q (F0 m pc ls (.ref (t.2.1 1) :: .ref (t.2.1 4) :: rest)) := by
  have hne : t.2.1 4 ≠ t.2.1 1 := fun z => absurd (hK.2 4 1 (by decide) (by decide) z) (by decide)
  refine kk_Wv (W.runS (As := [.ref (t.2.1 4), .ref (t.2.1 1)]) (rest := rest) S (k_copyRow l t (t.2.1 4) (t.2.1 1) (x 3) r hne) (va_cwS 2 S.2.2.2.2 (lw_S q1447 q1448 q117 q1449) rfl rfl rfl (by decide +kernel) ⟨hR.1, by have := hR.2.1; show 8 + (3 + 11) + 38 * 0 ≤ R.locals; omega⟩) ⟨fun a U g mk h => ⟨h.1, va_K.moved (U := U.calling g mk a) (Vm.Alike.refl U.vm) h.2.1, h.2.2⟩, fun U hU hW => ⟨rfl, hK.1.moved hW.alike, by rw [hU]; exact hP 4 (by decide), by rw [hU]; exact hP 1 (by decide)⟩⟩ rfl rfl hsz rfl (lv_room hrest) hdg ⟨hR.2.2.1, hR.2.2.2⟩) hS (fun q h => by rw [h]; exact mA.at t (by decide)) (fun q h => by rw [h]; exact mA.at t (by decide)) (fun H1 locs1 hB hz hk hS => ?_)
  exact kk H1 locs1 (hP.set2 hK (i := 1) (by decide) hB hk (mE_r _)) hS
theorem c_copyRow_1_3 (S : CallFix p m c cc nL s args lw_all RX13) (hK : mK t s) (hP : mW t r x H) (hS : va_S (mA t) H0 H locs) (hR : kRm R 1 cells slots) (hsz : ls.size = nL) (hrest : (rest.map fun v => v.category).sum ≤ 8) (hdg : decode cc pc = .ok (.invokestatic 140, 3)) (kk : ∀ (H1 : Heap) (locs1 : List Loc), mW t r (va_up x 2 r) H1 → va_S (mA t) H0 H1 locs1 → W p l e R s m args below meth c H1 locs1 cells slots Q (F0 m (pc + 3) ls rest)) : W p l e R s m args below meth c H locs cells slots Q (F0 m pc ls (.ref (t.2.1 3) :: .ref (t.2.1 1) :: rest)) := by
  have hne : t.2.1 1 ≠ t.2.1 3 := fun z => absurd (hK.2 1 3 (by decide) (by decide) z) (by decide)
  refine kk_Wv (W.runS (As := [.ref (t.2.1 1), .ref (t.2.1 3)]) (rest := rest) S (k_copyRow l t (t.2.1 1) (t.2.1 3) r (x 2) hne) (va_cwS 2 S.2.2.2.2 (lw_S q1447 q1448 q117 q1449) rfl rfl rfl (by decide +kernel) ⟨hR.1, by have := hR.2.1; show 8 + (3 + 11) + 38 * 0 ≤ R.locals; omega⟩) ⟨fun a U g mk h => ⟨h.1, va_K.moved (U := U.calling g mk a) (Vm.Alike.refl U.vm) h.2.1, h.2.2⟩, fun U hU hW => ⟨rfl, hK.1.moved hW.alike, by rw [hU]; exact hP 1 (by decide), by rw [hU]; exact hP 3 (by decide)⟩⟩ rfl rfl hsz rfl (lv_room hrest) hdg ⟨hR.2.2.1, hR.2.2.2⟩) hS (fun q h => by rw [h]; exact mA.at t (by decide)) (fun q h => by rw [h]; exact mA.at t (by decide)) (fun H1 locs1 hB hz hk hS => ?_)
  exact kk H1 locs1 (hP.set2 hK (i := 3) (by decide) hB hk (mE_up2 _)) hS
theorem c_copyRow_3_1 (S : CallFix p m c cc nL s args lw_all RX13) (hK : mK t s) (hP : mW t r x H) (hS : va_S (mA t) H0 H locs) (hR : kRm R 1 cells slots) (hsz : ls.size = nL) (hrest : (rest.map fun v => v.category).sum ≤ 8) (hdg : decode cc pc = .ok (.invokestatic 140, 3)) (kk : ∀ (H1 : Heap) (locs1 : List Loc), mW t (x 2) x H1 → va_S (mA t) H0 H1 locs1 → W p l e R s m args below meth c H1 locs1 cells slots Q (F0 m (pc + 3) ls rest)) : W p l e R s m args below meth c H locs cells slots Q (F0 m pc ls (.ref (t.2.1 1) :: .ref (t.2.1 3) :: rest)) := by
  have hne : t.2.1 3 ≠ t.2.1 1 := fun z => absurd (hK.2 3 1 (by decide) (by decide) z) (by decide)
  refine kk_Wv (W.runS (As := [.ref (t.2.1 3), .ref (t.2.1 1)]) (rest := rest) S (k_copyRow l t (t.2.1 3) (t.2.1 1) (x 2) r hne) (va_cwS 2 S.2.2.2.2 (lw_S q1447 q1448 q117 q1449) rfl rfl rfl (by decide +kernel) ⟨hR.1, by have := hR.2.1; show 8 + (3 + 11) + 38 * 0 ≤ R.locals; omega⟩) ⟨fun a U g mk h => ⟨h.1, va_K.moved (U := U.calling g mk a) (Vm.Alike.refl U.vm) h.2.1, h.2.2⟩, fun U hU hW => ⟨rfl, hK.1.moved hW.alike, by rw [hU]; exact hP 3 (by decide), by rw [hU]; exact hP 1 (by decide)⟩⟩ rfl rfl hsz rfl (lv_room hrest) hdg ⟨hR.2.2.1, hR.2.2.2⟩) hS (fun q h => by rw [h]; exact mA.at t (by decide)) (fun q h => by rw [h]; exact mA.at t (by decide)) (fun H1 locs1 hB hz hk hS => ?_)
  exact kk H1 locs1 (hP.set2 hK (i := 1) (by decide) hB hk (mE_r _)) hS
theorem c_copyRow_1_2 (S : CallFix p m c cc nL s args lw_all RX13) (hK : mK t s) (hP : mW t r x H) (hS : va_S (mA t) H0 H locs) (hR : kRm R 1 cells slots) (hsz : ls.size = nL) (hrest : (rest.map fun v => v.category).sum ≤ 8) (hdg : decode cc pc = .ok (.invokestatic 140, 3)) (kk : ∀ (H1 : Heap) (locs1 : List Loc), mW t r (va_up x 1 r) H1 → va_S (mA t) H0 H1 locs1 → W p l e R s m args below meth c H1 locs1 cells slots Q (F0 m (pc + 3) ls rest)) : W p l e R s m args below meth c H locs cells slots Q (F0 m pc ls (.ref (t.2.1 2) :: .ref (t.2.1 1) :: rest)) := by
  have hne : t.2.1 1 ≠ t.2.1 2 := fun z => absurd (hK.2 1 2 (by decide) (by decide) z) (by decide)
  refine kk_Wv (W.runS (As := [.ref (t.2.1 1), .ref (t.2.1 2)]) (rest := rest) S (k_copyRow l t (t.2.1 1) (t.2.1 2) r (x 1) hne) (va_cwS 2 S.2.2.2.2 (lw_S q1447 q1448 q117 q1449) rfl rfl rfl (by decide +kernel) ⟨hR.1, by have := hR.2.1; show 8 + (3 + 11) + 38 * 0 ≤ R.locals; omega⟩) ⟨fun a U g mk h => ⟨h.1, va_K.moved (U := U.calling g mk a) (Vm.Alike.refl U.vm) h.2.1, h.2.2⟩, fun U hU hW => ⟨rfl, hK.1.moved hW.alike, by rw [hU]; exact hP 1 (by decide), by rw [hU]; exact hP 2 (by decide)⟩⟩ rfl rfl hsz rfl (lv_room hrest) hdg ⟨hR.2.2.1, hR.2.2.2⟩) hS (fun q h => by rw [h]; exact mA.at t (by decide)) (fun q h => by rw [h]; exact mA.at t (by decide)) (fun H1 locs1 hB hz hk hS => ?_)
  exact kk H1 locs1 (hP.set2 hK (i := 2) (by decide) hB hk (mE_up1 _)) hS
theorem c_copyRow_2_1 (S : CallFix p m c cc nL s args lw_all RX13) (hK : mK t s) (hP : mW t r x H) (hS : va_S (mA t) H0 H locs) (hR : kRm R 1 cells slots) (hsz : ls.size = nL) (hrest : (rest.map fun v => v.category).sum ≤ 8) (hdg : decode cc pc = .ok (.invokestatic 140, 3)) (kk : ∀ (H1 : Heap) (locs1 : List Loc), mW t (x 1) x H1 → va_S (mA t) H0 H1 locs1 → W p l e R s m args below meth c H1 locs1 cells slots Q (F0 m (pc + 3) ls rest)) : W p l e R s m args below meth c H locs cells slots Q (F0 m pc ls (.ref (t.2.1 1) :: .ref (t.2.1 2) :: rest)) := by
  have hne : t.2.1 2 ≠ t.2.1 1 := fun z => absurd (hK.2 2 1 (by decide) (by decide) z) (by decide)
  refine kk_Wv (W.runS (As := [.ref (t.2.1 2), .ref (t.2.1 1)]) (rest := rest) S (k_copyRow l t (t.2.1 2) (t.2.1 1) (x 1) r hne) (va_cwS 2 S.2.2.2.2 (lw_S q1447 q1448 q117 q1449) rfl rfl rfl (by decide +kernel) ⟨hR.1, by have := hR.2.1; show 8 + (3 + 11) + 38 * 0 ≤ R.locals; omega⟩) ⟨fun a U g mk h => ⟨h.1, va_K.moved (U := U.calling g mk a) (Vm.Alike.refl U.vm) h.2.1, h.2.2⟩, fun U hU hW => ⟨rfl, hK.1.moved hW.alike, by rw [hU]; exact hP 2 (by decide), by rw [hU]; exact hP 1 (by decide)⟩⟩ rfl rfl hsz rfl (lv_room hrest) hdg ⟨hR.2.2.1, hR.2.2.2⟩) hS (fun q h => by rw [h]; exact mA.at t (by decide)) (fun q h => by rw [h]; exact mA.at t (by decide)) (fun H1 locs1 hB hz hk hS => ?_)
  exact kk H1 locs1 (hP.set2 hK (i := 1) (by decide) hB hk (mE_r _)) hS
end MCC

/-! COMPONENT: World.become -/
/-- cell j out of r', the rest of q -/
def wcp (q r' : Rw) (j : Nat) : Rw := fun i => if w_pl i = j then r' i else q i
theorem wcp_y {q r' : Rw} {i j : Nat} (h : w_pl i = j) : wcp q r' j i = r' i := if_pos h
theorem wcp_n {q r' : Rw} {i j : Nat} (h : w_pl i ≠ j) : wcp q r' j i = q i := if_neg h
theorem wcp_eq {q r' : Rw} {j k : Nat} (hk : k < 12) (h : k ≠ j) : w_eq q (wcp q r' j) k := by
  match k, hk, h with
  | 0, _, h => exact ⟨wcp_n (fun e => h (by rw [← e]; rfl)), wcp_n (fun e => h (by rw [← e]; rfl)), wcp_n (fun e => h (by rw [← e]; rfl)), wcp_n (fun e => h (by rw [← e]; rfl))⟩
  | 1, _, h => exact fun i hi => wcp_n (fun e => h (by rw [← e, w_pl1 hi]))
  | 2, _, h => exact fun i hi => wcp_n (fun e => h (by rw [← e, w_pl2 hi]))
  | 3, _, _ => trivial
  | 4, _, h => exact fun i hi => wcp_n (fun e => h (by rw [← e, w_pl4 hi]))
  | k + 5, hk, h => exact fun i hi => wcp_n (fun e => h (by rw [← e, w_plc (by omega) hi]; omega))
/-- a row's length and its numbers, by cell -/
def w_n (j : Nat) : Nat := if j = 4 then 10 else if j < 5 then 6 else 8
def w_f (r : Rw) (j : Nat) : Rw := if j = 1 then (fun k => r (4 + k)) else if j = 2 then (fun k => r (10 + k)) else if j = 4 then (fun k => r (72 + k)) else fun k => r (16 + 7 * k + (j - 5))
theorem wE_f (t : CT) (r : Rw) {j : Nat} (hj : j = 1 ∨ j = 2 ∨ (4 ≤ j ∧ j < 12)) : wE t r j = .inl (t.2.2 0, w_n j, .inl (w_f r j)) := by
  match j, hj with
  | 0, h => omega
  | 1, _ => rfl
  | 2, _ => rfl
  | 3, h => omega
  | 4, _ => rfl
  | j + 5, _ =>
    have h1 : w_n (j + 5) = 8 := by unfold w_n; rw [if_neg (by omega), if_neg (by omega)]
    have h2 : w_f r (j + 5) = fun k => r (16 + 7 * k + j) := by unfold w_f; rw [if_neg (by omega), if_neg (by omega), if_neg (by omega)]; rfl
    rw [h1, h2]; rfl
theorem wcp_f {q r' : Rw} {j : Nat} (hj : j = 1 ∨ j = 2 ∨ (4 ≤ j ∧ j < 12)) : ∀ k, k < w_n j → w_f (wcp q r' j) j k = w_f r' j k := by
  match j, hj with
  | 0, h => omega
  | 1, _ => exact fun k hk => wcp_y (w_pl1 hk)
  | 2, _ => exact fun k hk => wcp_y (w_pl2 hk)
  | 3, h => omega
  | 4, _ => exact fun k hk => wcp_y (w_pl4 hk)
  | j + 5, h =>
    have h1 : w_n (j + 5) = 8 := by unfold w_n; rw [if_neg (by omega), if_neg (by omega)]
    have h2 : ∀ r : Rw, w_f r (j + 5) = fun k => r (16 + 7 * k + j) := fun r => by unfold w_f; rw [if_neg (by omega), if_neg (by omega), if_neg (by omega)]; rfl
    rw [h1, h2, h2]
    exact fun k hk => wcp_y (by rw [w_plc (by omega) hk]; omega)
theorem w_plg {i : Nat} (h : 72 ≤ i) : w_pl i = 4 := by unfold w_pl; rw [if_neg (by omega), if_neg (by omega), if_neg (by omega), if_neg (by omega)]
theorem w_plm {i : Nat} (h : 16 ≤ i) (h2 : i < 72) : w_pl i = 5 + (i - 16) % 7 := by unfold w_pl; rw [if_neg (by omega), if_neg (by omega), if_neg (by omega), if_pos h2]
section WB
variable {p : Program} {l : Launch} {e : Env} {R : Room} {s : State} {m : MethodId} {args : Array Value} {below : List Frame} {meth : Method} {c : Code} {H H0 : Heap} {locs : List Loc} {cells slots : Nat} {Q : State → Prop}
variable {cc : ByteArray} {pc nL : Nat} {ls : Array Slot} {rest : List Value} {D : va_G} {a b : Nat → Nat} {cs : Nat → ClassId} {q r' : Rw} {A : Nat → Prop}
theorem c4_copy (S : CallFix p m c cc nL s args lw_all RX4) (hK : wK (D, a, cs) s) (hK' : wK (D, b, cs) s) (hab : ∀ i j, i < 12 → j < 12 → a i ≠ b j) (hP : wW (D, a, cs) q H) (hP' : wW (D, b, cs) r' H) (hS : va_S A H0 H locs) (hA : ∀ x, wA (D, a, cs) x ∨ wA (D, b, cs) x → A x) (hR : kRm R 2 cells slots) (hsz : ls.size = nL) (j : Nat) (hj : j = 1 ∨ j = 2 ∨ (4 ≤ j ∧ j < 12)) (hrest : (rest.map fun v => v.category).sum ≤ 8) (hdg : decode cc pc = .ok (.invokestatic 36, 3))
    (kk : ∀ (H1 : Heap) (locs1 : List Loc), wW (D, a, cs) (wcp q r' j) H1 → wW (D, b, cs) r' H1 → va_S A H0 H1 locs1 → W p l e R s m args below meth c H1 locs1 cells slots Q (F0 m (pc + 3) ls rest)) : W p l e R s m args below meth c H locs cells slots Q (F0 m pc ls (.ref (a j) :: .ref (b j) :: rest)) := by
  have hj12 : j < 12 := by omega
  have ha := hP j hj12
  have hb := hP' j hj12
  rw [wE_f _ _ hj] at ha hb
  have hn : w_n j < 2 ^ 31 := by unfold w_n; split <;> (try split) <;> decide
  have hne : b j ≠ a j := fun z => hab j j hj12 hj12 z.symm
  have hK1 : va_K D cC [(cs 0, .int)] s := hK.1.sub (tys' := [(cs 0, .int)]) [0] rfl
  refine kk_Wv (W.runS (As := [.ref (b j), .ref (a j)]) (rest := rest) S (k4_copy l D (cs 0) (w_n j) (b j) (a j) (w_f r' j) (w_f q j) hne hn) (va_cwS 2 S.2.2.2.2 (lw_S q814 q815 q108 q816) rfl rfl rfl (by decide +kernel) ⟨hR.1, by have := hR.2.1; show 8 + (2 + 11) + 38 * 1 ≤ R.locals; omega⟩) ⟨fun _ U g mk h => ⟨h.1, va_K.moved (U := U.calling g mk _) (Vm.Alike.refl U.vm) h.2.1, h.2.2⟩, fun U hU hW => ⟨rfl, va_K.moved hW.alike hK1, by rw [hU]; exact hb, by rw [hU]; exact ha⟩⟩ rfl rfl hsz rfl (lv_room hrest) hdg ⟨hR.2.2.1, hR.2.2.2⟩) hS (fun x h => hA x (h.elim (fun h => Or.inr ⟨j, hj12, h⟩) (fun h => Or.inl ⟨j, hj12, h⟩))) (fun x h => hA x (h.elim (fun h => Or.inr ⟨j, hj12, h⟩) (fun h => Or.inl ⟨j, hj12, h⟩))) (fun H1 locs1 hB hz hk hS => ?_)
  obtain ⟨h1, h2⟩ := hB
  refine kk H1 locs1 (fun i hi => ?_) (fun i hi => ?_) hS
  · by_cases hij : i = j
    · subst hij
      rw [wE_f _ _ hj]
      exact h2.trans (congrArg some (cell_congr fun k hk => (wcp_f hj k hk).symm))
    · exact (w_eq.at (wcp_eq hi hij) (hP i hi)).kept (hk _ ((hP i hi).lt) (fun h => h.elim (fun h => hab i j hi hj12 h) (fun h => hij (hK.2 i j hi hj12 h))))
  · by_cases hij : i = j
    · subst hij
      rw [wE_f _ _ hj]
      exact h1
    · exact (hP' i hi).kept (hk _ ((hP' i hi).lt) (fun h => h.elim (fun h => hij (hK'.2 i j hi hj12 h)) (fun h => hab j i hj12 hi h.symm)))
end WB
set_option maxHeartbeats 4000000 in
set_option maxRecDepth 100000 in
theorem k4_become (l : Launch) (D : va_G) (a b : Nat → Nat) (cs : Nat → ClassId) (r r' : Rw) (hab : ∀ i j, i < 12 → j < 12 → a i ≠ b j) : Met l yX4_become (ws_ yX4_become cX4_become 3 none) (rmF 2) (va_Pc [.ref (a 0), .ref (b 0)] (fun U => (wK (D, a, cs) U ∧ wK (D, b, cs) U) ∧ wW (D, a, cs) r U.heap ∧ wW (D, b, cs) r' U.heap)) (kW none (fun H => wW (D, a, cs) r' H ∧ wW (D, b, cs) r' H) (fun x => wA (D, a, cs) x ∨ wA (D, b, cs) x)) 0 0 (fun x => wA (D, a, cs) x ∨ wA (D, b, cs) x) := by
  refine kk_start (by decide) (Nat.le_of_ble_eq_true rfl) ?_
  intro p e s m below meth c S hr hlk hin hB ls hl
  obtain ⟨⟨hK, hK'⟩, hP, hP'⟩ := hB
  have hx := S.1
  have hb := S.2.1
  have hts := S.2.2.2.2
  generalize hAe : (fun x => wA (D, a, cs) x ∨ wA (D, b, cs) x) = A
  have hA : ∀ x, wA (D, a, cs) x ∨ wA (D, b, cs) x → A x := fun x h => by rw [← hAe]; exact h
  have hS : va_S A s.heap s.heap [] := va_S.rf
  have hl : lv_has ls 3 [(0, .ref (a 0)), (1, .ref (b 0))] := hl
  refine lv_aload_n hx hb dX4_become_0 rfl (lv_at hl 1 rfl) ?_
  refine wk_get (t := (D, b, cs)) S hK' hP' 0 (by decide) (hts _ q230) rfl rfl dX4_become_1 ?_
  refine lv_aload_n hx hb dX4_become_4 rfl (lv_at hl 0 rfl) ?_
  refine wk_get (t := (D, a, cs)) S hK hP 0 (by decide) (hts _ q230) rfl rfl dX4_become_5 ?_
  refine c4_copy S hK hK' hab hP hP' hS hA (rm_ok (Nat.le_of_ble_eq_true rfl)) hl.1 1 (Or.inl rfl) (Nat.le_of_ble_eq_true rfl) dX4_become_8 (fun H locs hP hP' hS => ?_)
  refine lv_aload_n hx hb dX4_become_11 rfl (lv_at hl 1 rfl) ?_
  refine wk_get (t := (D, b, cs)) S hK' hP' 1 (by decide) (hts _ q234) rfl rfl dX4_become_12 ?_
  refine lv_aload_n hx hb dX4_become_15 rfl (lv_at hl 0 rfl) ?_
  refine wk_get (t := (D, a, cs)) S hK hP 1 (by decide) (hts _ q234) rfl rfl dX4_become_16 ?_
  refine c4_copy S hK hK' hab hP hP' hS hA (rm_ok (Nat.le_of_ble_eq_true rfl)) hl.1 2 (Or.inr (Or.inl rfl)) (Nat.le_of_ble_eq_true rfl) dX4_become_19 (fun H locs hP hP' hS => ?_)
  refine lv_aload_n hx hb dX4_become_22 rfl (lv_at hl 0 rfl) ?_
  refine lv_aload_n hx hb dX4_become_23 rfl (lv_at hl 1 rfl) ?_
  refine wk_get (t := (D, b, cs)) S hK' hP' 2 (by decide) (hts _ q237) rfl rfl dX4_become_24 ?_
  refine wk_put (t := (D, a, cs)) S hK hP hS (fun x h => hA x (Or.inl h)) 2 3 (by decide) (by decide) (hts _ q237) rfl rfl rfl (wF_claps _ _ _) dX4_become_27 (fun H locs hP oq hS => ?_)
  have hP' : wW (D, b, cs) r' H := hP'.kept (fun j hj => oq _ (fun z => hab 0 j (by decide) hj z.symm))
  refine lv_aload_n hx hb dX4_become_30 rfl (lv_at hl 0 rfl) ?_
  refine lv_aload_n hx hb dX4_become_31 rfl (lv_at hl 1 rfl) ?_
  refine wk_get (t := (D, b, cs)) S hK' hP' 3 (by decide) (hts _ q239) rfl rfl dX4_become_32 ?_
  refine wk_put (t := (D, a, cs)) S hK hP hS (fun x h => hA x (Or.inl h)) 3 0 (by decide) (by decide) (hts _ q239) rfl rfl rfl (wF_casks _ _ _) dX4_become_35 (fun H locs hP oq hS => ?_)
  have hP' : wW (D, b, cs) r' H := hP'.kept (fun j hj => oq _ (fun z => hab 0 j (by decide) hj z.symm))
  refine lv_iconst (v := 0) hx hb dX4_become_38 (by decide) ?_
  refine lv_istore_n (lv' := [(2, .int (nI 0)), (0, .ref (a 0)), (1, .ref (b 0))]) hx hb dX4_become_39 rfl hl (by decide) rfl (fun ls hl => ?_)
  have lp_40 : ∀ (j k : Nat) (q : Rw) (H : Heap) (locs : List Loc) (ls : Array Slot), k + j = 7 → (∀ i, i < 72 → (i < 1 ∨ i = 3 ∨ (4 ≤ i ∧ i < 16) ∨ (16 ≤ i ∧ w_pl i < 5 + k)) → q i = r' i) → wW (D, a, cs) q H → wW (D, b, cs) r' H → va_S A s.heap H locs → lv_has ls 3 [(2, .int (nI k)), (0, .ref (a 0)), (1, .ref (b 0))] → W p l e (rmF 2) s m ([.ref (a 0), .ref (b 0)] : List Value).toArray below meth c H locs 0 0 (MQ below (kW none (fun H => wW (D, a, cs) r' H ∧ wW (D, b, cs) r' H) A) ([.ref (a 0), .ref (b 0)] : List Value).toArray s 0 0 A) (F0 m 40 ls []) := by
    intro j
    induction j with
    | zero =>
      intro k q H locs ls hkj hq hP hP' hS hl
      obtain rfl : k = 7 := by omega
      refine lv_iload_n hx hb dX4_become_40 rfl (lv_at hl 0 rfl) ?_
      refine lv_bipush (v := 7) hx hb dX4_become_41 (by decide) ?_
      refine kb_ge_n (tgt := 67) (a := 7) (b := 7) S rfl rfl (by omega) (by omega) dX4_become_43 (by decide) (fun c_1 => ?_) (fun c_1 => absurd c_1 (by omega))
      · skip
        refine lv_aload_n hx hb dX4_become_67 rfl (lv_at hl 1 rfl) ?_
        refine lv_aload_n hx hb dX4_become_68 rfl (lv_at hl 2 rfl) ?_
        refine wk_get (t := (D, b, cs)) S hK' hP' 5 (by decide) (hts _ q246) rfl rfl dX4_become_69 ?_
        refine wk_put (t := (D, a, cs)) S hK hP hS (fun x h => hA x (Or.inl h)) 5 1 (by decide) (by decide) (hts _ q246) rfl rfl rfl (wF_day _ _ _) dX4_become_72 (fun H locs hP oq hS => ?_)
        have hP' : wW (D, b, cs) r' H := hP'.kept (fun j hj => oq _ (fun z => hab 0 j (by decide) hj z.symm))
        refine lv_aload_n hx hb dX4_become_75 rfl (lv_at hl 1 rfl) ?_
        refine lv_aload_n hx hb dX4_become_76 rfl (lv_at hl 2 rfl) ?_
        refine wk_get (t := (D, b, cs)) S hK' hP' 6 (by decide) (hts _ q248) rfl rfl dX4_become_77 ?_
        refine wk_put (t := (D, a, cs)) S hK hP hS (fun x h => hA x (Or.inl h)) 6 2 (by decide) (by decide) (hts _ q248) rfl rfl rfl (wF_z _ _ _) dX4_become_80 (fun H locs hP oq hS => ?_)
        have hP' : wW (D, b, cs) r' H := hP'.kept (fun j hj => oq _ (fun z => hab 0 j (by decide) hj z.symm))
        refine lv_aload_n hx hb dX4_become_83 rfl (lv_at hl 2 rfl) ?_
        refine wk_get (t := (D, b, cs)) S hK' hP' 7 (by decide) (hts _ q250) rfl rfl dX4_become_84 ?_
        refine lv_aload_n hx hb dX4_become_87 rfl (lv_at hl 1 rfl) ?_
        refine wk_get (t := (D, a, cs)) S hK hP 7 (by decide) (hts _ q250) rfl rfl dX4_become_88 ?_
        refine c4_copy S hK hK' hab hP hP' hS hA (rm_ok (Nat.le_of_ble_eq_true rfl)) hl.1 4 (Or.inr (Or.inr ⟨by decide, by decide⟩)) (Nat.le_of_ble_eq_true rfl) dX4_become_91 (fun H locs hP hP' hS => ?_)
        refine kk_vretW S hr hlk hS ⟨hP.congr (fun i hi => ?_), hP'⟩ dX4_become_94
        by_cases h4 : w_pl i = 4
        · rw [wcp_y h4]
        · rw [wcp_n h4]
          have h72 : i < 72 := Nat.not_le.mp (fun z => h4 (w_plg z))
          by_cases h2 : i = 2
          · rw [h2, up_s]
          · rw [up_n h2]
            by_cases h1 : i = 1
            · rw [h1, up_s]
            · rw [up_n h1]
              refine (hq i h72 ?_).symm
              by_cases h16 : 16 ≤ i
              · have := w_plm h16 h72
                omega
              · omega
    | succ j ih =>
      intro k q H locs ls hkj hq hP hP' hS hl
      refine lv_iload_n hx hb dX4_become_40 rfl (lv_at hl 0 rfl) ?_
      refine lv_bipush (v := 7) hx hb dX4_become_41 (by decide) ?_
      refine kb_ge_n (tgt := 67) (a := k) (b := 7) S rfl rfl (by omega) (by omega) dX4_become_43 (by decide) (fun c_1 => absurd c_1 (by omega)) (fun c_1 => ?_)
      refine lv_aload_n hx hb dX4_become_46 rfl (lv_at hl 2 rfl) ?_
      refine wk_get (t := (D, b, cs)) S hK' hP' 4 (by decide) (hts _ q242) rfl rfl dX4_become_47 ?_
      refine lv_iload_n hx hb dX4_become_50 rfl (lv_at hl 0 rfl) ?_
      refine wk_aald (t := (D, b, cs)) S hK' hP' k (by omega) rfl dX4_become_51 ?_
      refine lv_aload_n hx hb dX4_become_52 rfl (lv_at hl 1 rfl) ?_
      refine wk_get (t := (D, a, cs)) S hK hP 4 (by decide) (hts _ q242) rfl rfl dX4_become_53 ?_
      refine lv_iload_n hx hb dX4_become_56 rfl (lv_at hl 0 rfl) ?_
      refine wk_aald (t := (D, a, cs)) S hK hP k (by omega) rfl dX4_become_57 ?_
      refine c4_copy S hK hK' hab hP hP' hS hA (rm_ok (Nat.le_of_ble_eq_true rfl)) hl.1 (5 + k) (Or.inr (Or.inr ⟨by omega, by omega⟩)) (Nat.le_of_ble_eq_true rfl) dX4_become_58 (fun H locs hP hP' hS => ?_)
      refine lv_iinc (v := (nI (k + 1))) (lv' := [(2, .int (nI (k + 1))), (0, .ref (a 0)), (1, .ref (b 0))]) hx hb dX4_become_61 hl (k := 0) rfl (nn_1 rfl) (by decide) rfl (fun ls hl => ?_)
      refine lv_goto (tgt := 40) hx hb dX4_become_64 (by decide) ?_
      refine ih (k + 1) _ H locs ls (by omega) (fun i hi h => ?_) hP hP' hS hl
      by_cases h5 : w_pl i = 5 + k
      · rw [wcp_y h5]
      · rw [wcp_n h5]
        exact hq i hi (by omega)
  refine lp_40 7 0 _ H locs ls rfl (fun i hi h => ?_) hP hP' hS hl
  by_cases h0 : i = 0
  · rw [h0, up_s]
  · rw [up_n h0]
    by_cases h3 : i = 3
    · rw [h3, up_s]
    · rw [up_n h3]
      by_cases h16 : 16 ≤ i
      · have := w_plm h16 hi
        omega
      · by_cases h10 : i < 10
        · have h1 : w_pl i = 1 := by
            have := w_pl1 (k := i - 4) (by omega)
            rw [show 4 + (i - 4) = i by omega] at this
            exact this
          rw [wcp_n (by omega), wcp_y h1]
        · have h2 : w_pl i = 2 := by
            have := w_pl2 (k := i - 10) (by omega)
            rw [show 10 + (i - 10) = i by omega] at this
            exact this
          rw [wcp_y h2]

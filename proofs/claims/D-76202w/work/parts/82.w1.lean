section WC
variable {p : Program} {l : Launch} {e : Env} {R : Room} {s : State} {m : MethodId} {args : Array Value} {below : List Frame} {meth : Method} {c : Code} {H H0 : Heap} {locs : List Loc} {cells slots : Nat} {Q : State → Prop}
variable {cc : ByteArray} {pc nL : Nat} {ls : Array Slot} {rest : List Value} {t : CT} {r : Rw} {A : Nat → Prop}
theorem c4_min (S : CallFix p m c cc nL s args lw_all RX4) (hR : kRm R 1 cells slots) (hsz : ls.size = nL) {a b : Int32} (hrest : (rest.map fun v => v.category).sum ≤ 8) (hdg : decode cc pc = .ok (.invokestatic 50, 3)) (kk : W p l e R s m args below meth c H locs cells slots Q (F0 m (pc + 3) ls (.int (imin a b) :: rest))) : W p l e R s m args below meth c H locs cells slots Q (F0 m pc ls (.int b :: .int a :: rest)) := by
  refine va_mmin S.1 S.2.1 (S.2.2.1.trans hsz.symm) S.2.2.2.1 (S.2.2.2.2 _ q721) (S.2.2.2.2 _ q722) (S.2.2.2.2 _ q118) (S.2.2.2.2 _ q723) hR.1 (by have := hR.2.1; omega) hR.2.2.1 hR.2.2.2 hdg ?_
  rw [show (if b < a then b else a) = imin a b by unfold imin; grind]
  exact kk
theorem c4_max (S : CallFix p m c cc nL s args lw_all RX4) (hR : kRm R 1 cells slots) (hsz : ls.size = nL) {a b : Int32} (hrest : (rest.map fun v => v.category).sum ≤ 8) (hdg : decode cc pc = .ok (.invokestatic 64, 3)) (kk : W p l e R s m args below meth c H locs cells slots Q (F0 m (pc + 3) ls (.int (imax a b) :: rest))) : W p l e R s m args below meth c H locs cells slots Q (F0 m pc ls (.int b :: .int a :: rest)) := by
  refine va_mmax S.1 S.2.1 (S.2.2.1.trans hsz.symm) S.2.2.2.1 (S.2.2.2.2 _ q728) (S.2.2.2.2 _ q548) (S.2.2.2.2 _ q118) (S.2.2.2.2 _ q549) hR.1 (by have := hR.2.1; omega) hR.2.2.1 hR.2.2.2 hdg ?_
  rw [show (if a < b then b else a) = imax a b by unfold imax; grind]
  exact kk
theorem c0_max (S : CallFix p m c cc nL s args lw_all RX0) (hR : kRm R 1 cells slots) (hsz : ls.size = nL) {a b : Int32} (hrest : (rest.map fun v => v.category).sum ≤ 8) (hdg : decode cc pc = .ok (.invokestatic 254, 3)) (kk : W p l e R s m args below meth c H locs cells slots Q (F0 m (pc + 3) ls (.int (imax a b) :: rest))) : W p l e R s m args below meth c H locs cells slots Q (F0 m pc ls (.int b :: .int a :: rest)) := by
  refine va_mmax S.1 S.2.1 (S.2.2.1.trans hsz.symm) S.2.2.2.1 (S.2.2.2.2 _ q872) (S.2.2.2.2 _ q548) (S.2.2.2.2 _ q118) (S.2.2.2.2 _ q549) hR.1 (by have := hR.2.1; omega) hR.2.2.1 hR.2.2.2 hdg ?_
  rw [show (if a < b then b else a) = imax a b by unfold imax; grind]
  exact kk
theorem c6_max (S : CallFix p m c cc nL s args lw_all RX6) (hR : kRm R 1 cells slots) (hsz : ls.size = nL) {a b : Int32} (hrest : (rest.map fun v => v.category).sum ≤ 8) (hdg : decode cc pc = .ok (.invokestatic 41, 3)) (kk : W p l e R s m args below meth c H locs cells slots Q (F0 m (pc + 3) ls (.int (imax a b) :: rest))) : W p l e R s m args below meth c H locs cells slots Q (F0 m pc ls (.int b :: .int a :: rest)) := by
  refine va_mmax S.1 S.2.1 (S.2.2.1.trans hsz.symm) S.2.2.2.1 (S.2.2.2.2 _ q639) (S.2.2.2.2 _ q548) (S.2.2.2.2 _ q118) (S.2.2.2.2 _ q549) hR.1 (by have := hR.2.1; omega) hR.2.2.1 hR.2.2.2 hdg ?_
  rw [show (if a < b then b else a) = imax a b by unfold imax; grind]
  exact kk
theorem c7_max (S : CallFix p m c cc nL s args lw_all RX7) (hR : kRm R 1 cells slots) (hsz : ls.size = nL) {a b : Int32} (hrest : (rest.map fun v => v.category).sum ≤ 8) (hdg : decode cc pc = .ok (.invokestatic 30, 3)) (kk : W p l e R s m args below meth c H locs cells slots Q (F0 m (pc + 3) ls (.int (imax a b) :: rest))) : W p l e R s m args below meth c H locs cells slots Q (F0 m pc ls (.int b :: .int a :: rest)) := by
  refine va_mmax S.1 S.2.1 (S.2.2.1.trans hsz.symm) S.2.2.2.1 (S.2.2.2.2 _ q547) (S.2.2.2.2 _ q548) (S.2.2.2.2 _ q118) (S.2.2.2.2 _ q549) hR.1 (by have := hR.2.1; omega) hR.2.2.1 hR.2.2.2 hdg ?_
  rw [show (if a < b then b else a) = imax a b by unfold imax; grind]
  exact kk
end WC
set_option maxHeartbeats 4000000 in
set_option maxRecDepth 100000 in
theorem k4_whatIsIn (l : Launch) (t : CT) (r : Rw) (v : Int32) (b : Nat) (hV : pV b r) : Met l yX4_whatIsIn (ws_ yX4_whatIsIn cX4_whatIsIn 4 (some .int)) (rmF 0) (va_Pc [.ref (t.2.1 0), .int v] (fun U => wK t U ∧ wW t r U.heap)) (kR (some (.int (nI (p_there r v))))) 0 0 (fun _ => False) := by
  refine kk_start (by decide) (Nat.le_of_ble_eq_true rfl) ?_
  intro p e s m below meth c S hr hlk hin hB ls hl
  obtain ⟨hK, hP⟩ := hB
  have hx := S.1
  have hb := S.2.1
  have hown : s.vm.findClass RX4 = some m.cls := S.2.2.2.1
  have hts := S.2.2.2.2
  have hl : lv_has ls 4 [(0, .ref (t.2.1 0)), (1, .int (v))] := hl
  have hn := hV.n.1
  have hn8 := hV.n.2
  refine lv_iconst (v := 0) hx hb dX4_whatIsIn_0 (by decide) ?_
  refine lv_istore_n (lv' := [(2, .int (0)), (0, .ref (t.2.1 0)), (1, .int (v))]) hx hb dX4_whatIsIn_1 rfl hl (by decide) rfl (fun ls hl => ?_)
  refine lv_iconst (v := 0) hx hb dX4_whatIsIn_2 (by decide) ?_
  refine lv_istore_n (lv' := [(3, .int (0)), (2, .int (0)), (0, .ref (t.2.1 0)), (1, .int (v))]) hx hb dX4_whatIsIn_3 rfl hl (by decide) rfl (fun ls hl => ?_)
  have lp_4 : ∀ (j k : Nat) (a : Nat) (ls : Array Slot), k + j = pN r → (lp (fun k a => a ||| (if r (16 + 7 * k + 1) = v then 2 ^ k else 0)) j k a = p_there r v) → lv_has ls 4 [(0, .ref (t.2.1 0)), (1, .int (v)), (2, .int ((nI a))), (3, .int ((nI k)))] → W p l e (rmF 0) s m ([.ref (t.2.1 0), .int v] : List Value).toArray below meth c s.heap [] 0 0 (MQ below (kR (some (.int (nI (p_there r v))))) ([.ref (t.2.1 0), .int v] : List Value).toArray s 0 0 (fun _ => False)) (F0 m 4 ls []) := by
    intro j
    induction j with
    | zero =>
      intro k a ls hkj he hl
      refine lv_iload_n hx hb dX4_whatIsIn_4 rfl (lv_at hl 3 rfl) ?_
      refine lv_aload_n hx hb dX4_whatIsIn_5 rfl (lv_at hl 0 rfl) ?_
      refine wk_get S hK hP 3 (by decide) (hts _ q239) rfl rfl dX4_whatIsIn_6 ?_
      refine kb_ge_n (tgt := 40) (a := k) (b := (pN r)) S rfl hn (by omega) (by omega) dX4_whatIsIn_9 (by decide) (fun c_9 => ?_) (fun c_9 => ?_)
      · skip
        refine lv_iload_n hx hb dX4_whatIsIn_40 rfl (lv_at hl 2 rfl) ?_
        exact kk_iretR S hr hlk rfl rfl (by rw [← he]; rfl) dX4_whatIsIn_41
      · exact absurd c_9 (by omega)
    | succ j ih =>
      intro k a ls hkj he hl
      have ih_4 := ih
      refine lv_iload_n hx hb dX4_whatIsIn_4 rfl (lv_at hl 3 rfl) ?_
      refine lv_aload_n hx hb dX4_whatIsIn_5 rfl (lv_at hl 0 rfl) ?_
      refine wk_get S hK hP 3 (by decide) (hts _ q239) rfl rfl dX4_whatIsIn_6 ?_
      refine kb_ge_n (tgt := 40) (a := k) (b := (pN r)) S rfl hn (by omega) (by omega) dX4_whatIsIn_9 (by decide) (fun c_9 => ?_) (fun c_9 => ?_)
      · exact absurd c_9 (by omega)
      · skip
        refine lv_iload_n hx hb dX4_whatIsIn_12 rfl (lv_at hl 2 rfl) ?_
        refine lv_aload_n hx hb dX4_whatIsIn_13 rfl (lv_at hl 0 rfl) ?_
        refine wk_get S hK hP 4 (by decide) (hts _ q242) rfl rfl dX4_whatIsIn_14 ?_
        refine lv_iconst (v := 1) hx hb dX4_whatIsIn_17 (by decide) ?_
        refine wk_aald S hK hP (1) (by omega) rfl dX4_whatIsIn_18 ?_
        refine lv_iload_n hx hb dX4_whatIsIn_19 rfl (lv_at hl 3 rfl) ?_
        refine wk_ldc S hK hP (1) (by omega) (k) (by omega) rfl dX4_whatIsIn_20 ?_
        refine lv_iload_n hx hb dX4_whatIsIn_21 rfl (lv_at hl 1 rfl) ?_
        refine lv_icmp_ne (tgt := 31) hx hb dX4_whatIsIn_22 (by decide) (fun c_22 => ?_) (fun c_22 => ?_)
        · skip
          refine lv_iconst (v := 0) hx hb dX4_whatIsIn_31 (by decide) ?_
          refine lv_ior hx hb dX4_whatIsIn_32 ?_
          refine kb_nat (y := nI ((a ||| 0))) (nn_or rfl rfl) ?_
          refine lv_istore_n (lv' := [(2, .int ((nI (a ||| 0)))), (0, .ref (t.2.1 0)), (1, .int (v)), (3, .int ((nI k)))]) hx hb dX4_whatIsIn_33 rfl hl (by decide) rfl (fun ls hl => ?_)
          refine lv_iinc (v := (nI (k + 1))) (lv' := [(3, .int ((nI (k + 1)))), (2, .int ((nI (a ||| 0)))), (0, .ref (t.2.1 0)), (1, .int (v))]) hx hb dX4_whatIsIn_34 hl (k := 3) rfl (nn_1 rfl) (by decide) rfl (fun ls hl => ?_)
          refine lv_goto (tgt := 4) hx hb dX4_whatIsIn_37 (by decide) ?_
          exact ih_4 ((k + 1)) ((a ||| 0)) ls (by omega) (by have h := he; simp only [lp] at h; first | (rw [if_pos c_22] at h; exact h) | (rw [if_neg c_22] at h; exact h)) (lv_sub hl [2, 3, 1, 0] rfl)
        · skip
          refine lv_iconst (v := 1) hx hb dX4_whatIsIn_25 (by decide) ?_
          refine lv_iload_n hx hb dX4_whatIsIn_26 rfl (lv_at hl 3 rfl) ?_
          refine lv_ishl hx hb dX4_whatIsIn_27 ?_
          refine lv_goto (tgt := 32) hx hb dX4_whatIsIn_28 (by decide) ?_
          refine lv_ior hx hb dX4_whatIsIn_32 ?_
          refine kb_nat (y := nI ((a ||| (2 ^ k)))) (nn_or rfl (nn_shl1 _ (by omega))) ?_
          refine lv_istore_n (lv' := [(2, .int ((nI (a ||| (2 ^ k))))), (0, .ref (t.2.1 0)), (1, .int (v)), (3, .int ((nI k)))]) hx hb dX4_whatIsIn_33 rfl hl (by decide) rfl (fun ls hl => ?_)
          refine lv_iinc (v := (nI (k + 1))) (lv' := [(3, .int ((nI (k + 1)))), (2, .int ((nI (a ||| (2 ^ k))))), (0, .ref (t.2.1 0)), (1, .int (v))]) hx hb dX4_whatIsIn_34 hl (k := 3) rfl (nn_1 rfl) (by decide) rfl (fun ls hl => ?_)
          refine lv_goto (tgt := 4) hx hb dX4_whatIsIn_37 (by decide) ?_
          exact ih_4 ((k + 1)) ((a ||| (2 ^ k))) ls (by omega) (by have h := he; simp only [lp] at h; first | (rw [if_pos c_22] at h; exact h) | (rw [if_neg c_22] at h; exact h)) (lv_sub hl [2, 3, 1, 0] rfl)
  exact lp_4 (pN r) 0 (0) ls (by omega) (rfl) (lv_sub hl [2, 3, 1, 0] rfl)
set_option maxHeartbeats 4000000 in
set_option maxRecDepth 100000 in
theorem k4_emptiest (l : Launch) (t : CT) (r : Rw) (v : Int32) (b : Nat) (hV : pV b r) : Met l yX4_emptiest (ws_ yX4_emptiest cX4_emptiest 5 (some .int)) (rmF 0) (va_Pc [.ref (t.2.1 0), .int v] (fun U => wK t U ∧ wW t r U.heap)) (kR (some (.int (oi (p_emp r v))))) 0 0 (fun _ => False) := by
  refine kk_start (by decide) (Nat.le_of_ble_eq_true rfl) ?_
  intro p e s m below meth c S hr hlk hin hB ls hl
  obtain ⟨hK, hP⟩ := hB
  have hx := S.1
  have hb := S.2.1
  have hown : s.vm.findClass RX4 = some m.cls := S.2.2.2.1
  have hts := S.2.2.2.2
  have hl : lv_has ls 5 [(0, .ref (t.2.1 0)), (1, .int (v))] := hl
  have hn := hV.n.1
  have hn8 := hV.n.2
  refine lv_iconst (v := (-1)) hx hb dX4_emptiest_0 (by decide) ?_
  refine lv_istore_n (lv' := [(2, .int ((-1))), (0, .ref (t.2.1 0)), (1, .int (v))]) hx hb dX4_emptiest_1 rfl hl (by decide) rfl (fun ls hl => ?_)
  refine lv_iconst (v := 0) hx hb dX4_emptiest_2 (by decide) ?_
  refine lv_istore_n (lv' := [(3, .int (0)), (2, .int ((-1))), (0, .ref (t.2.1 0)), (1, .int (v))]) hx hb dX4_emptiest_3 rfl hl (by decide) rfl (fun ls hl => ?_)
  have lp_4 : ∀ (j k : Nat) (bb : Option Nat) (ls : Array Slot), k + j = pN r → (lp (fun k b => if r (16 + 7 * k + 1) = v ∧ p_less r k b = true then some k else b) j k bb = p_emp r v) → (∀ i, bb = some i → i < 8) → lv_has ls 5 [(0, .ref (t.2.1 0)), (1, .int (v)), (2, .int ((oi bb))), (3, .int ((nI k)))] → W p l e (rmF 0) s m ([.ref (t.2.1 0), .int v] : List Value).toArray below meth c s.heap [] 0 0 (MQ below (kR (some (.int (oi (p_emp r v))))) ([.ref (t.2.1 0), .int v] : List Value).toArray s 0 0 (fun _ => False)) (F0 m 4 ls []) := by
    intro j
    induction j with
    | zero =>
      intro k bb ls hkj he hb8 hl
      refine lv_iload_n hx hb dX4_emptiest_4 rfl (lv_at hl 3 rfl) ?_
      refine lv_aload_n hx hb dX4_emptiest_5 rfl (lv_at hl 0 rfl) ?_
      refine wk_get S hK hP 3 (by decide) (hts _ q239) rfl rfl dX4_emptiest_6 ?_
      refine kb_ge_n (tgt := 72) (a := k) (b := (pN r)) S rfl hn (by omega) (by omega) dX4_emptiest_9 (by decide) (fun c_9 => ?_) (fun c_9 => ?_)
      · skip
        refine lv_iload_n hx hb dX4_emptiest_72 rfl (lv_at hl 2 rfl) ?_
        exact kk_iretR S hr hlk rfl rfl (by rw [← he]; rfl) dX4_emptiest_73
      · exact absurd c_9 (by omega)
    | succ j ih =>
      intro k bb ls hkj he hb8 hl
      have ih_4 := ih
      refine lv_iload_n hx hb dX4_emptiest_4 rfl (lv_at hl 3 rfl) ?_
      refine lv_aload_n hx hb dX4_emptiest_5 rfl (lv_at hl 0 rfl) ?_
      refine wk_get S hK hP 3 (by decide) (hts _ q239) rfl rfl dX4_emptiest_6 ?_
      refine kb_ge_n (tgt := 72) (a := k) (b := (pN r)) S rfl hn (by omega) (by omega) dX4_emptiest_9 (by decide) (fun c_9 => ?_) (fun c_9 => ?_)
      · exact absurd c_9 (by omega)
      · skip
        refine lv_aload_n hx hb dX4_emptiest_12 rfl (lv_at hl 0 rfl) ?_
        refine wk_get S hK hP 4 (by decide) (hts _ q242) rfl rfl dX4_emptiest_13 ?_
        refine lv_iconst (v := 1) hx hb dX4_emptiest_16 (by decide) ?_
        refine wk_aald S hK hP (1) (by omega) rfl dX4_emptiest_17 ?_
        refine lv_iload_n hx hb dX4_emptiest_18 rfl (lv_at hl 3 rfl) ?_
        refine wk_ldc S hK hP (1) (by omega) (k) (by omega) rfl dX4_emptiest_19 ?_
        refine lv_iload_n hx hb dX4_emptiest_20 rfl (lv_at hl 1 rfl) ?_
        refine lv_icmp_ne (tgt := 52) hx hb dX4_emptiest_21 (by decide) (fun c_21 => ?_) (fun c_21 => ?_)
        · skip
          refine lv_iconst (v := 0) hx hb dX4_emptiest_52 (by decide) ?_
          refine lv_istore (lv' := [(4, .int (0)), (0, .ref (t.2.1 0)), (1, .int (v)), (2, .int ((oi bb))), (3, .int ((nI k)))]) hx hb dX4_emptiest_53 hl (by decide) rfl (fun ls hl => ?_)
          refine lv_iload hx hb dX4_emptiest_55 (lv_at hl 0 rfl) ?_
          refine kb_eq0_n (tgt := 64) (a := 0) S rfl (by omega) dX4_emptiest_57 (by decide) (fun c_57 => ?_) (fun c_57 => ?_)
          · skip
            refine lv_iload_n hx hb dX4_emptiest_64 rfl (lv_at hl 3 rfl) ?_
            refine lv_istore_n (lv' := [(2, .int ((oi bb))), (4, .int (0)), (0, .ref (t.2.1 0)), (1, .int (v)), (3, .int ((nI k)))]) hx hb dX4_emptiest_65 rfl hl (by decide) rfl (fun ls hl => ?_)
            refine lv_iinc (v := (nI (k + 1))) (lv' := [(3, .int ((nI (k + 1)))), (2, .int ((oi bb))), (4, .int (0)), (0, .ref (t.2.1 0)), (1, .int (v))]) hx hb dX4_emptiest_66 hl (k := 4) rfl (nn_1 rfl) (by decide) rfl (fun ls hl => ?_)
            refine lv_goto (tgt := 4) hx hb dX4_emptiest_69 (by decide) ?_
            exact ih_4 ((k + 1)) bb ls (by omega) (by have h := he; simp only [lp] at h; first | (rw [if_neg (fun z => c_21 z.1)] at h; exact h) | (rw [if_pos ⟨c_21, rfl⟩] at h; exact h) | (rw [if_pos ⟨c_21, decide_eq_true (Int32.not_le.mp c_45)⟩] at h; exact h) | (rw [if_neg (fun z => absurd (of_decide_eq_true z.2) (Int32.not_lt.mpr c_45))] at h; exact h)) (by first | exact hb8 | (intro i hi; cases hi; omega)) (lv_sub hl [3, 4, 1, 0] rfl)
          · exact absurd c_57 (by first | decide | omega)
        · skip
          refine lv_iload_n hx hb dX4_emptiest_24 rfl (lv_at hl 2 rfl) ?_
          refine lv_iconst (v := (-1)) hx hb dX4_emptiest_25 (by decide) ?_
          refine kb_eq_o (tgt := 48) S dX4_emptiest_26 (by decide) (fun c_26 => ?_) (fun c_26 => ?_) (fun i hi => Nat.lt_trans (hb8 i hi) (by decide))
          · skip
            subst c_26
            refine lv_iconst (v := 1) hx hb dX4_emptiest_48 (by decide) ?_
            refine lv_goto (tgt := 53) hx hb dX4_emptiest_49 (by decide) ?_
            refine lv_istore (lv' := [(4, .int (1)), (0, .ref (t.2.1 0)), (1, .int (v)), (2, .int ((oi none))), (3, .int ((nI k)))]) hx hb dX4_emptiest_53 hl (by decide) rfl (fun ls hl => ?_)
            refine lv_iload hx hb dX4_emptiest_55 (lv_at hl 0 rfl) ?_
            refine kb_eq0_n (tgt := 64) (a := 1) S rfl (by omega) dX4_emptiest_57 (by decide) (fun c_57 => ?_) (fun c_57 => ?_)
            · exact absurd c_57 (by first | decide | omega)
            · skip
              refine lv_iload_n hx hb dX4_emptiest_60 rfl (lv_at hl 4 rfl) ?_
              refine lv_goto (tgt := 65) hx hb dX4_emptiest_61 (by decide) ?_
              refine lv_istore_n (lv' := [(2, .int ((nI k))), (4, .int (1)), (0, .ref (t.2.1 0)), (1, .int (v)), (3, .int ((nI k)))]) hx hb dX4_emptiest_65 rfl hl (by decide) rfl (fun ls hl => ?_)
              refine lv_iinc (v := (nI (k + 1))) (lv' := [(3, .int ((nI (k + 1)))), (2, .int ((nI k))), (4, .int (1)), (0, .ref (t.2.1 0)), (1, .int (v))]) hx hb dX4_emptiest_66 hl (k := 4) rfl (nn_1 rfl) (by decide) rfl (fun ls hl => ?_)
              refine lv_goto (tgt := 4) hx hb dX4_emptiest_69 (by decide) ?_
              exact ih_4 ((k + 1)) (some (k)) ls (by omega) (by have h := he; simp only [lp] at h; first | (rw [if_neg (fun z => c_21 z.1)] at h; exact h) | (rw [if_pos ⟨c_21, rfl⟩] at h; exact h) | (rw [if_pos ⟨c_21, decide_eq_true (Int32.not_le.mp c_45)⟩] at h; exact h) | (rw [if_neg (fun z => absurd (of_decide_eq_true z.2) (Int32.not_lt.mpr c_45))] at h; exact h)) (by first | exact hb8 | (intro i hi; cases hi; omega)) (lv_sub hl [3, 4, 1, 0] rfl)
          · skip
            obtain ⟨bb_26, rfl⟩ := c_26
            have hbb_26 := hb8 _ rfl
            refine lv_aload_n hx hb dX4_emptiest_29 rfl (lv_at hl 0 rfl) ?_
            refine wk_get S hK hP 4 (by decide) (hts _ q242) rfl rfl dX4_emptiest_30 ?_
            refine lv_iconst (v := 2) hx hb dX4_emptiest_33 (by decide) ?_
            refine wk_aald S hK hP (2) (by omega) rfl dX4_emptiest_34 ?_
            refine lv_iload_n hx hb dX4_emptiest_35 rfl (lv_at hl 3 rfl) ?_
            refine wk_ldc S hK hP (2) (by omega) (k) (by omega) rfl dX4_emptiest_36 ?_
            refine lv_aload_n hx hb dX4_emptiest_37 rfl (lv_at hl 0 rfl) ?_
            refine wk_get S hK hP 4 (by decide) (hts _ q242) rfl rfl dX4_emptiest_38 ?_
            refine lv_iconst (v := 2) hx hb dX4_emptiest_41 (by decide) ?_
            refine wk_aald S hK hP (2) (by omega) rfl dX4_emptiest_42 ?_
            refine lv_iload_n hx hb dX4_emptiest_43 rfl (lv_at hl 2 rfl) ?_
            refine wk_ldc S hK hP (2) (by omega) (bb_26) (by omega) (oi_some _) dX4_emptiest_44 ?_
            refine lv_icmp_ge (tgt := 52) hx hb dX4_emptiest_45 (by decide) (fun c_45 => ?_) (fun c_45 => ?_)
            · skip
              refine lv_iconst (v := 0) hx hb dX4_emptiest_52 (by decide) ?_
              refine lv_istore (lv' := [(4, .int (0)), (0, .ref (t.2.1 0)), (1, .int (v)), (2, .int ((oi (some bb_26)))), (3, .int ((nI k)))]) hx hb dX4_emptiest_53 hl (by decide) rfl (fun ls hl => ?_)
              refine lv_iload hx hb dX4_emptiest_55 (lv_at hl 0 rfl) ?_
              refine kb_eq0_n (tgt := 64) (a := 0) S rfl (by omega) dX4_emptiest_57 (by decide) (fun c_57 => ?_) (fun c_57 => ?_)
              · skip
                refine lv_iload_n hx hb dX4_emptiest_64 rfl (lv_at hl 3 rfl) ?_
                refine kb_nat (y := nI (bb_26)) (oi_some _) ?_
                refine lv_istore_n (lv' := [(2, .int ((nI bb_26))), (4, .int (0)), (0, .ref (t.2.1 0)), (1, .int (v)), (3, .int ((nI k)))]) hx hb dX4_emptiest_65 rfl hl (by decide) rfl (fun ls hl => ?_)
                refine lv_iinc (v := (nI (k + 1))) (lv' := [(3, .int ((nI (k + 1)))), (2, .int ((nI bb_26))), (4, .int (0)), (0, .ref (t.2.1 0)), (1, .int (v))]) hx hb dX4_emptiest_66 hl (k := 4) rfl (nn_1 rfl) (by decide) rfl (fun ls hl => ?_)
                refine lv_goto (tgt := 4) hx hb dX4_emptiest_69 (by decide) ?_
                exact ih_4 ((k + 1)) (some (bb_26)) ls (by omega) (by have h := he; simp only [lp] at h; first | (rw [if_neg (fun z => c_21 z.1)] at h; exact h) | (rw [if_pos ⟨c_21, rfl⟩] at h; exact h) | (rw [if_pos ⟨c_21, decide_eq_true (Int32.not_le.mp c_45)⟩] at h; exact h) | (rw [if_neg (fun z => absurd (of_decide_eq_true z.2) (Int32.not_lt.mpr c_45))] at h; exact h)) (by first | exact hb8 | (intro i hi; cases hi; omega)) (lv_sub hl [3, 4, 1, 0] rfl)
              · exact absurd c_57 (by first | decide | omega)
            · skip
              refine lv_iconst (v := 1) hx hb dX4_emptiest_48 (by decide) ?_
              refine lv_goto (tgt := 53) hx hb dX4_emptiest_49 (by decide) ?_
              refine lv_istore (lv' := [(4, .int (1)), (0, .ref (t.2.1 0)), (1, .int (v)), (2, .int ((oi (some bb_26)))), (3, .int ((nI k)))]) hx hb dX4_emptiest_53 hl (by decide) rfl (fun ls hl => ?_)
              refine lv_iload hx hb dX4_emptiest_55 (lv_at hl 0 rfl) ?_
              refine kb_eq0_n (tgt := 64) (a := 1) S rfl (by omega) dX4_emptiest_57 (by decide) (fun c_57 => ?_) (fun c_57 => ?_)
              · exact absurd c_57 (by first | decide | omega)
              · skip
                refine lv_iload_n hx hb dX4_emptiest_60 rfl (lv_at hl 4 rfl) ?_
                refine lv_goto (tgt := 65) hx hb dX4_emptiest_61 (by decide) ?_
                refine lv_istore_n (lv' := [(2, .int ((nI k))), (4, .int (1)), (0, .ref (t.2.1 0)), (1, .int (v)), (3, .int ((nI k)))]) hx hb dX4_emptiest_65 rfl hl (by decide) rfl (fun ls hl => ?_)
                refine lv_iinc (v := (nI (k + 1))) (lv' := [(3, .int ((nI (k + 1)))), (2, .int ((nI k))), (4, .int (1)), (0, .ref (t.2.1 0)), (1, .int (v))]) hx hb dX4_emptiest_66 hl (k := 4) rfl (nn_1 rfl) (by decide) rfl (fun ls hl => ?_)
                refine lv_goto (tgt := 4) hx hb dX4_emptiest_69 (by decide) ?_
                exact ih_4 ((k + 1)) (some (k)) ls (by omega) (by have h := he; simp only [lp] at h; first | (rw [if_neg (fun z => c_21 z.1)] at h; exact h) | (rw [if_pos ⟨c_21, rfl⟩] at h; exact h) | (rw [if_pos ⟨c_21, decide_eq_true (Int32.not_le.mp c_45)⟩] at h; exact h) | (rw [if_neg (fun z => absurd (of_decide_eq_true z.2) (Int32.not_lt.mpr c_45))] at h; exact h)) (by first | exact hb8 | (intro i hi; cases hi; omega)) (lv_sub hl [3, 4, 1, 0] rfl)
  exact lp_4 (pN r) 0 none ls (by omega) (rfl) (fun _ h => by cases h) (lv_sub hl [2, 3, 1, 0] rfl)
set_option maxHeartbeats 4000000 in
set_option maxRecDepth 100000 in
theorem k4_peals (l : Launch) (t : CT) (r : Rw) (k : Nat) (v : Int32) (hk : k < 8) : Met l yX4_peals (ws_ yX4_peals cX4_peals 3 none) (rmF 1) (va_Pc [.ref (t.2.1 0), .int (nI k), .int v] (fun U => wK t U ∧ wW t r U.heap)) (kW none (wW t (p_more r k v)) (wA t)) 0 0 (wA t) := by
  refine kk_start (by decide) (Nat.le_of_ble_eq_true rfl) ?_
  intro p e s m below meth c S hr hlk hin hB ls hl
  obtain ⟨hK, hP⟩ := hB
  have hx := S.1
  have hb := S.2.1
  have hown : s.vm.findClass RX4 = some m.cls := S.2.2.2.1
  have hts := S.2.2.2.2
  have hS : va_S (wA t) s.heap s.heap [] := va_S.rf
  have hl : lv_has ls 3 [(0, .ref (t.2.1 0)), (1, .int ((nI k))), (2, .int (v))] := hl
  refine lv_aload_n hx hb dX4_peals_0 rfl (lv_at hl 0 rfl) ?_
  refine wk_get S hK hP 4 (by decide) (hts _ q242) rfl rfl dX4_peals_1 ?_
  refine lv_iconst (v := 2) hx hb dX4_peals_4 (by decide) ?_
  refine wk_aald S hK hP (2) (by omega) rfl dX4_peals_5 ?_
  refine lv_iload_n hx hb dX4_peals_6 rfl (lv_at hl 1 rfl) ?_
  refine lv_sipush (v := 999) hx hb dX4_peals_7 (by decide) ?_
  refine lv_aload_n hx hb dX4_peals_10 rfl (lv_at hl 0 rfl) ?_
  refine wk_get S hK hP 4 (by decide) (hts _ q242) rfl rfl dX4_peals_11 ?_
  refine lv_iconst (v := 2) hx hb dX4_peals_14 (by decide) ?_
  refine wk_aald S hK hP (2) (by omega) rfl dX4_peals_15 ?_
  refine lv_iload_n hx hb dX4_peals_16 rfl (lv_at hl 1 rfl) ?_
  refine wk_ldc S hK hP (2) (by omega) (k) (by omega) rfl dX4_peals_17 ?_
  refine lv_iload_n hx hb dX4_peals_18 rfl (lv_at hl 2 rfl) ?_
  refine lv_iadd hx hb dX4_peals_19 ?_
  refine c4_min S (rm_ok (Nat.le_of_ble_eq_true rfl)) hl.1 (Nat.le_of_ble_eq_true rfl) dX4_peals_20 ?_
  refine wk_stc S hK hP hS (fun _ h => h) (2) (by omega) (k) (by omega) rfl dX4_peals_23 (fun H locs hP _ hS => ?_)
  exact kk_vretW S hr hlk hS (hP) dX4_peals_24
set_option maxHeartbeats 4000000 in
set_option maxRecDepth 100000 in
theorem k4_leaks (l : Launch) (t : CT) (r : Rw) (k : Nat) (v : Int32) (hk : k < 8) : Met l yX4_leaks (ws_ yX4_leaks cX4_leaks 3 none) (rmF 1) (va_Pc [.ref (t.2.1 0), .int (nI k), .int v] (fun U => wK t U ∧ wW t r U.heap)) (kW none (wW t (p_ag (upd r (16 + 7 * k + 2) (imax 0 (r (16 + 7 * k + 2) - v))) k)) (wA t)) 0 0 (wA t) := by
  refine kk_start (by decide) (Nat.le_of_ble_eq_true rfl) ?_
  intro p e s m below meth c S hr hlk hin hB ls hl
  obtain ⟨hK, hP⟩ := hB
  have hx := S.1
  have hb := S.2.1
  have hown : s.vm.findClass RX4 = some m.cls := S.2.2.2.1
  have hts := S.2.2.2.2
  have hS : va_S (wA t) s.heap s.heap [] := va_S.rf
  have hl : lv_has ls 3 [(0, .ref (t.2.1 0)), (1, .int ((nI k))), (2, .int (v))] := hl
  refine lv_aload_n hx hb dX4_leaks_0 rfl (lv_at hl 0 rfl) ?_
  refine wk_get S hK hP 4 (by decide) (hts _ q242) rfl rfl dX4_leaks_1 ?_
  refine lv_iconst (v := 2) hx hb dX4_leaks_4 (by decide) ?_
  refine wk_aald S hK hP (2) (by omega) rfl dX4_leaks_5 ?_
  refine lv_iload_n hx hb dX4_leaks_6 rfl (lv_at hl 1 rfl) ?_
  refine lv_iconst (v := 0) hx hb dX4_leaks_7 (by decide) ?_
  refine lv_aload_n hx hb dX4_leaks_8 rfl (lv_at hl 0 rfl) ?_
  refine wk_get S hK hP 4 (by decide) (hts _ q242) rfl rfl dX4_leaks_9 ?_
  refine lv_iconst (v := 2) hx hb dX4_leaks_12 (by decide) ?_
  refine wk_aald S hK hP (2) (by omega) rfl dX4_leaks_13 ?_
  refine lv_iload_n hx hb dX4_leaks_14 rfl (lv_at hl 1 rfl) ?_
  refine wk_ldc S hK hP (2) (by omega) (k) (by omega) rfl dX4_leaks_15 ?_
  refine lv_iload_n hx hb dX4_leaks_16 rfl (lv_at hl 2 rfl) ?_
  refine lv_isub hx hb dX4_leaks_17 ?_
  refine c4_max S (rm_ok (Nat.le_of_ble_eq_true rfl)) hl.1 (Nat.le_of_ble_eq_true rfl) dX4_leaks_18 ?_
  refine wk_stc S hK hP hS (fun _ h => h) (2) (by omega) (k) (by omega) rfl dX4_leaks_21 (fun H locs hP _ hS => ?_)
  refine lv_aload_n hx hb dX4_leaks_22 rfl (lv_at hl 0 rfl) ?_
  refine wk_get S hK hP 4 (by decide) (hts _ q242) rfl rfl dX4_leaks_23 ?_
  refine lv_iconst (v := 5) hx hb dX4_leaks_26 (by decide) ?_
  refine wk_aald S hK hP (5) (by omega) rfl dX4_leaks_27 ?_
  refine lv_iload_n hx hb dX4_leaks_28 rfl (lv_at hl 1 rfl) ?_
  refine lv_sipush (v := 999) hx hb dX4_leaks_29 (by decide) ?_
  refine lv_aload_n hx hb dX4_leaks_32 rfl (lv_at hl 0 rfl) ?_
  refine wk_get S hK hP 4 (by decide) (hts _ q242) rfl rfl dX4_leaks_33 ?_
  refine lv_iconst (v := 5) hx hb dX4_leaks_36 (by decide) ?_
  refine wk_aald S hK hP (5) (by omega) rfl dX4_leaks_37 ?_
  refine lv_iload_n hx hb dX4_leaks_38 rfl (lv_at hl 1 rfl) ?_
  refine wk_ldc S hK hP (5) (by omega) (k) (by omega) rfl dX4_leaks_39 ?_
  refine lv_iconst (v := 1) hx hb dX4_leaks_40 (by decide) ?_
  refine lv_iadd hx hb dX4_leaks_41 ?_
  refine c4_min S (rm_ok (Nat.le_of_ble_eq_true rfl)) hl.1 (Nat.le_of_ble_eq_true rfl) dX4_leaks_42 ?_
  refine wk_stc S hK hP hS (fun _ h => h) (5) (by omega) (k) (by omega) rfl dX4_leaks_45 (fun H locs hP _ hS => ?_)
  exact kk_vretW S hr hlk hS (hP) dX4_leaks_46
set_option maxHeartbeats 4000000 in
set_option maxRecDepth 100000 in
theorem k4_empties (l : Launch) (t : CT) (r : Rw) (k : Nat) (hk : k < 8) : Met l yX4_empties (ws_ yX4_empties cX4_empties 2 none) (rmF 0) (va_Pc [.ref (t.2.1 0), .int (nI k)] (fun U => wK t U ∧ wW t r U.heap)) (kW none (wW t (p_clear r k)) (wA t)) 0 0 (wA t) := by
  refine kk_start (by decide) (Nat.le_of_ble_eq_true rfl) ?_
  intro p e s m below meth c S hr hlk hin hB ls hl
  obtain ⟨hK, hP⟩ := hB
  have hx := S.1
  have hb := S.2.1
  have hown : s.vm.findClass RX4 = some m.cls := S.2.2.2.1
  have hts := S.2.2.2.2
  have hS : va_S (wA t) s.heap s.heap [] := va_S.rf
  have hl : lv_has ls 2 [(0, .ref (t.2.1 0)), (1, .int ((nI k)))] := hl
  refine lv_aload_n hx hb dX4_empties_0 rfl (lv_at hl 0 rfl) ?_
  refine wk_get S hK hP 4 (by decide) (hts _ q242) rfl rfl dX4_empties_1 ?_
  refine lv_iconst (v := 2) hx hb dX4_empties_4 (by decide) ?_
  refine wk_aald S hK hP (2) (by omega) rfl dX4_empties_5 ?_
  refine lv_iload_n hx hb dX4_empties_6 rfl (lv_at hl 1 rfl) ?_
  refine lv_iconst (v := 0) hx hb dX4_empties_7 (by decide) ?_
  refine wk_stc S hK hP hS (fun _ h => h) (2) (by omega) (k) (by omega) rfl dX4_empties_8 (fun H locs hP _ hS => ?_)
  refine lv_aload_n hx hb dX4_empties_9 rfl (lv_at hl 0 rfl) ?_
  refine wk_get S hK hP 4 (by decide) (hts _ q242) rfl rfl dX4_empties_10 ?_
  refine lv_iconst (v := 5) hx hb dX4_empties_13 (by decide) ?_
  refine wk_aald S hK hP (5) (by omega) rfl dX4_empties_14 ?_
  refine lv_iload_n hx hb dX4_empties_15 rfl (lv_at hl 1 rfl) ?_
  refine lv_iconst (v := 0) hx hb dX4_empties_16 (by decide) ?_
  refine wk_stc S hK hP hS (fun _ h => h) (5) (by omega) (k) (by omega) rfl dX4_empties_17 (fun H locs hP _ hS => ?_)
  exact kk_vretW S hr hlk hS (hP) dX4_empties_18
set_option maxHeartbeats 4000000 in
set_option maxRecDepth 100000 in
theorem k4_areAlike (l : Launch) (t : CT) (r : Rw) (a : Nat) (q : Nat) (ha : a < 8) (hq : q < 8) : Met l yX4_areAlike (ws_ yX4_areAlike cX4_areAlike 3 (some .boolean)) (rmF 0) (va_Pc [.ref (t.2.1 0), .int (nI a), .int (nI q)] (fun U => wK t U ∧ wW t r U.heap)) (kR (some (.int (b2i (r (16 + 7 * a + 1) = r (16 + 7 * q + 1) ∧ r (16 + 7 * a + 3) = r (16 + 7 * q + 3)))))) 0 0 (fun _ => False) := by
  refine kk_start (by decide) (Nat.le_of_ble_eq_true rfl) ?_
  intro p e s m below meth c S hr hlk hin hB ls hl
  obtain ⟨hK, hP⟩ := hB
  have hx := S.1
  have hb := S.2.1
  have hown : s.vm.findClass RX4 = some m.cls := S.2.2.2.1
  have hts := S.2.2.2.2
  have hl : lv_has ls 3 [(0, .ref (t.2.1 0)), (1, .int ((nI a))), (2, .int ((nI q)))] := hl
  refine lv_aload_n hx hb dX4_areAlike_0 rfl (lv_at hl 0 rfl) ?_
  refine wk_get S hK hP 4 (by decide) (hts _ q242) rfl rfl dX4_areAlike_1 ?_
  refine lv_iconst (v := 1) hx hb dX4_areAlike_4 (by decide) ?_
  refine wk_aald S hK hP (1) (by omega) rfl dX4_areAlike_5 ?_
  refine lv_iload_n hx hb dX4_areAlike_6 rfl (lv_at hl 1 rfl) ?_
  refine wk_ldc S hK hP (1) (by omega) (a) (by omega) rfl dX4_areAlike_7 ?_
  refine lv_aload_n hx hb dX4_areAlike_8 rfl (lv_at hl 0 rfl) ?_
  refine wk_get S hK hP 4 (by decide) (hts _ q242) rfl rfl dX4_areAlike_9 ?_
  refine lv_iconst (v := 1) hx hb dX4_areAlike_12 (by decide) ?_
  refine wk_aald S hK hP (1) (by omega) rfl dX4_areAlike_13 ?_
  refine lv_iload_n hx hb dX4_areAlike_14 rfl (lv_at hl 2 rfl) ?_
  refine wk_ldc S hK hP (1) (by omega) (q) (by omega) rfl dX4_areAlike_15 ?_
  refine lv_icmp_ne (tgt := 42) hx hb dX4_areAlike_16 (by decide) (fun c_16 => ?_) (fun c_16 => ?_)
  · skip
    refine lv_iconst (v := 0) hx hb dX4_areAlike_42 (by decide) ?_
    exact kk_zfR S hr hlk rfl rfl (by grind) dX4_areAlike_43
  · skip
    refine lv_aload_n hx hb dX4_areAlike_19 rfl (lv_at hl 0 rfl) ?_
    refine wk_get S hK hP 4 (by decide) (hts _ q242) rfl rfl dX4_areAlike_20 ?_
    refine lv_iconst (v := 3) hx hb dX4_areAlike_23 (by decide) ?_
    refine wk_aald S hK hP (3) (by omega) rfl dX4_areAlike_24 ?_
    refine lv_iload_n hx hb dX4_areAlike_25 rfl (lv_at hl 1 rfl) ?_
    refine wk_ldc S hK hP (3) (by omega) (a) (by omega) rfl dX4_areAlike_26 ?_
    refine lv_aload_n hx hb dX4_areAlike_27 rfl (lv_at hl 0 rfl) ?_
    refine wk_get S hK hP 4 (by decide) (hts _ q242) rfl rfl dX4_areAlike_28 ?_
    refine lv_iconst (v := 3) hx hb dX4_areAlike_31 (by decide) ?_
    refine wk_aald S hK hP (3) (by omega) rfl dX4_areAlike_32 ?_
    refine lv_iload_n hx hb dX4_areAlike_33 rfl (lv_at hl 2 rfl) ?_
    refine wk_ldc S hK hP (3) (by omega) (q) (by omega) rfl dX4_areAlike_34 ?_
    refine lv_icmp_ne (tgt := 42) hx hb dX4_areAlike_35 (by decide) (fun c_35 => ?_) (fun c_35 => ?_)
    · skip
      refine lv_iconst (v := 0) hx hb dX4_areAlike_42 (by decide) ?_
      exact kk_zfR S hr hlk rfl rfl (by grind) dX4_areAlike_43
    · skip
      refine lv_iconst (v := 1) hx hb dX4_areAlike_38 (by decide) ?_
      refine lv_goto (tgt := 43) hx hb dX4_areAlike_39 (by decide) ?_
      exact kk_ztR S hr hlk rfl rfl (by grind) dX4_areAlike_43
section WC
variable {p : Program} {l : Launch} {e : Env} {R : Room} {s : State} {m : MethodId} {args : Array Value} {below : List Frame} {meth : Method} {c : Code} {H H0 : Heap} {locs : List Loc} {cells slots : Nat} {Q : State → Prop}
variable {cc : ByteArray} {pc nL : Nat} {ls : Array Slot} {rest : List Value} {t : CT} {r : Rw} {A : Nat → Prop}
theorem c0_whatIsIn (S : CallFix p m c cc nL s args lw_all RX0) (hK : wK t s) (hP : wW t r H) (hR : kRm R 1 cells slots) (hsz : ls.size = nL) {v : Int32} (b : Nat) (hV : pV b r) (hrest : (rest.map fun v => v.category).sum ≤ 8) (hdg : decode cc pc = .ok (.invokevirtual 165, 3)) (kk : W p l e R s m args below meth c H locs cells slots Q (F0 m (pc + 3) ls (.int (nI (p_there r v)) :: rest))) : W p l e R s m args below meth c H locs cells slots Q (F0 m pc ls (.int v :: .ref (t.2.1 0) :: rest)) := by
  exact kk_Ri (W.runV (As := [.int v]) (rest := rest) S (k4_whatIsIn l t r v b hV) (cwV 1 S.2.2.2.2 (lw_V q465 q466 q467 q108 q468) rfl rfl rfl (by decide +kernel) ⟨hR.1, by have := hR.2.1; show 8 + (4 + 11) + 38 * 0 ≤ R.locals; omega⟩) ⟨w_blind, w_recv hK hP, w_pre hK hP⟩ rfl rfl hsz rfl (lv_room hrest) hdg ⟨hR.2.2.1, hR.2.2.2⟩) kk
theorem c10_whatIsIn (S : CallFix p m c cc nL s args lw_all RX10) (hK : wK t s) (hP : wW t r H) (hR : kRm R 1 cells slots) (hsz : ls.size = nL) {v : Int32} (b : Nat) (hV : pV b r) (hrest : (rest.map fun v => v.category).sum ≤ 8) (hdg : decode cc pc = .ok (.invokevirtual 30, 3)) (kk : W p l e R s m args below meth c H locs cells slots Q (F0 m (pc + 3) ls (.int (nI (p_there r v)) :: rest))) : W p l e R s m args below meth c H locs cells slots Q (F0 m pc ls (.int v :: .ref (t.2.1 0) :: rest)) := by
  exact kk_Ri (W.runV (As := [.int v]) (rest := rest) S (k4_whatIsIn l t r v b hV) (cwV 1 S.2.2.2.2 (lw_V q574 q466 q467 q108 q468) rfl rfl rfl (by decide +kernel) ⟨hR.1, by have := hR.2.1; show 8 + (4 + 11) + 38 * 0 ≤ R.locals; omega⟩) ⟨w_blind, w_recv hK hP, w_pre hK hP⟩ rfl rfl hsz rfl (lv_room hrest) hdg ⟨hR.2.2.1, hR.2.2.2⟩) kk
theorem c4_emptiest (S : CallFix p m c cc nL s args lw_all RX4) (hK : wK t s) (hP : wW t r H) (hR : kRm R 1 cells slots) (hsz : ls.size = nL) {v : Int32} (b : Nat) (hV : pV b r) (hrest : (rest.map fun v => v.category).sum ≤ 8) (hdg : decode cc pc = .ok (.invokevirtual 56, 3)) (kk : W p l e R s m args below meth c H locs cells slots Q (F0 m (pc + 3) ls (.int (oi (p_emp r v)) :: rest))) : W p l e R s m args below meth c H locs cells slots Q (F0 m pc ls (.int v :: .ref (t.2.1 0) :: rest)) := by
  exact kk_Ri (W.runV (As := [.int v]) (rest := rest) S (k4_emptiest l t r v b hV) (cwV 1 S.2.2.2.2 (lw_V q716 q470 q471 q108 q472) rfl rfl rfl (by decide +kernel) ⟨hR.1, by have := hR.2.1; show 8 + (5 + 11) + 38 * 0 ≤ R.locals; omega⟩) ⟨w_blind, w_recv hK hP, w_pre hK hP⟩ rfl rfl hsz rfl (lv_room hrest) hdg ⟨hR.2.2.1, hR.2.2.2⟩) kk
theorem c0_emptiest (S : CallFix p m c cc nL s args lw_all RX0) (hK : wK t s) (hP : wW t r H) (hR : kRm R 1 cells slots) (hsz : ls.size = nL) {v : Int32} (b : Nat) (hV : pV b r) (hrest : (rest.map fun v => v.category).sum ≤ 8) (hdg : decode cc pc = .ok (.invokevirtual 168, 3)) (kk : W p l e R s m args below meth c H locs cells slots Q (F0 m (pc + 3) ls (.int (oi (p_emp r v)) :: rest))) : W p l e R s m args below meth c H locs cells slots Q (F0 m pc ls (.int v :: .ref (t.2.1 0) :: rest)) := by
  exact kk_Ri (W.runV (As := [.int v]) (rest := rest) S (k4_emptiest l t r v b hV) (cwV 1 S.2.2.2.2 (lw_V q469 q470 q471 q108 q472) rfl rfl rfl (by decide +kernel) ⟨hR.1, by have := hR.2.1; show 8 + (5 + 11) + 38 * 0 ≤ R.locals; omega⟩) ⟨w_blind, w_recv hK hP, w_pre hK hP⟩ rfl rfl hsz rfl (lv_room hrest) hdg ⟨hR.2.2.1, hR.2.2.2⟩) kk
theorem c4_peals (S : CallFix p m c cc nL s args lw_all RX4) (hK : wK t s) (hP : wW t r H) (hS : va_S A H0 H locs) (hA : ∀ q, wA t q → A q) (hR : kRm R 2 cells slots) (hsz : ls.size = nL) (k : Nat) {v : Int32} (hk : k < 8) {i0 : Int32} (e0 : i0 = nI k) (hrest : (rest.map fun v => v.category).sum ≤ 8) (hdg : decode cc pc = .ok (.invokevirtual 60, 3)) (kk : ∀ (H1 : Heap) (locs1 : List Loc), wW t (p_more r k v) H1 → H.size ≤ H1.size → (∀ q : Nat, q < H.size → ¬ wA t q → H1[q]? = H[q]?) → va_S A H0 H1 locs1 → W p l e R s m args below meth c H1 locs1 cells slots Q (F0 m (pc + 3) ls (rest))) : W p l e R s m args below meth c H locs cells slots Q (F0 m pc ls (.int v :: .int i0 :: .ref (t.2.1 0) :: rest)) := by
  subst e0
  exact kk_Wv (W.runV (As := [.int (nI k), .int v]) (rest := rest) S (k4_peals l t r k v hk) (cwV 2 S.2.2.2.2 (lw_V q717 q718 q719 q108 q720) rfl rfl rfl (by decide +kernel) ⟨hR.1, by have := hR.2.1; show 8 + (3 + 11) + 38 * 1 ≤ R.locals; omega⟩) ⟨w_blind, w_recv hK hP, w_pre hK hP⟩ rfl rfl hsz rfl (lv_room hrest) hdg ⟨hR.2.2.1, hR.2.2.2⟩) hS hA hA kk
theorem c0_leaks (S : CallFix p m c cc nL s args lw_all RX0) (hK : wK t s) (hP : wW t r H) (hS : va_S A H0 H locs) (hA : ∀ q, wA t q → A q) (hR : kRm R 2 cells slots) (hsz : ls.size = nL) (k : Nat) {v : Int32} (hk : k < 8) {i0 : Int32} (e0 : i0 = nI k) (hrest : (rest.map fun v => v.category).sum ≤ 8) (hdg : decode cc pc = .ok (.invokevirtual 140, 3)) (kk : ∀ (H1 : Heap) (locs1 : List Loc), wW t (p_ag (upd r (16 + 7 * k + 2) (imax 0 (r (16 + 7 * k + 2) - v))) k) H1 → H.size ≤ H1.size → (∀ q : Nat, q < H.size → ¬ wA t q → H1[q]? = H[q]?) → va_S A H0 H1 locs1 → W p l e R s m args below meth c H1 locs1 cells slots Q (F0 m (pc + 3) ls (rest))) : W p l e R s m args below meth c H locs cells slots Q (F0 m pc ls (.int v :: .int i0 :: .ref (t.2.1 0) :: rest)) := by
  subst e0
  exact kk_Wv (W.runV (As := [.int (nI k), .int v]) (rest := rest) S (k4_leaks l t r k v hk) (cwV 2 S.2.2.2.2 (lw_V q724 q725 q726 q108 q727) rfl rfl rfl (by decide +kernel) ⟨hR.1, by have := hR.2.1; show 8 + (3 + 11) + 38 * 1 ≤ R.locals; omega⟩) ⟨w_blind, w_recv hK hP, w_pre hK hP⟩ rfl rfl hsz rfl (lv_room hrest) hdg ⟨hR.2.2.1, hR.2.2.2⟩) hS hA hA kk
theorem c4_empties (S : CallFix p m c cc nL s args lw_all RX4) (hK : wK t s) (hP : wW t r H) (hS : va_S A H0 H locs) (hA : ∀ q, wA t q → A q) (hR : kRm R 1 cells slots) (hsz : ls.size = nL) (k : Nat) (hk : k < 8) {i0 : Int32} (e0 : i0 = nI k) (hrest : (rest.map fun v => v.category).sum ≤ 8) (hdg : decode cc pc = .ok (.invokevirtual 71, 3)) (kk : ∀ (H1 : Heap) (locs1 : List Loc), wW t (p_clear r k) H1 → H.size ≤ H1.size → (∀ q : Nat, q < H.size → ¬ wA t q → H1[q]? = H[q]?) → va_S A H0 H1 locs1 → W p l e R s m args below meth c H1 locs1 cells slots Q (F0 m (pc + 3) ls (rest))) : W p l e R s m args below meth c H locs cells slots Q (F0 m pc ls (.int i0 :: .ref (t.2.1 0) :: rest)) := by
  subst e0
  exact kk_Wv (W.runV (As := [.int (nI k)]) (rest := rest) S (k4_empties l t r k hk) (cwV 1 S.2.2.2.2 (lw_V q770 q688 q689 q108 q690) rfl rfl rfl (by decide +kernel) ⟨hR.1, by have := hR.2.1; show 8 + (2 + 11) + 38 * 0 ≤ R.locals; omega⟩) ⟨w_blind, w_recv hK hP, w_pre hK hP⟩ rfl rfl hsz rfl (lv_room hrest) hdg ⟨hR.2.2.1, hR.2.2.2⟩) hS hA hA kk
theorem c0_empties (S : CallFix p m c cc nL s args lw_all RX0) (hK : wK t s) (hP : wW t r H) (hS : va_S A H0 H locs) (hA : ∀ q, wA t q → A q) (hR : kRm R 1 cells slots) (hsz : ls.size = nL) (k : Nat) (hk : k < 8) {i0 : Int32} (e0 : i0 = nI k) (hrest : (rest.map fun v => v.category).sum ≤ 8) (hdg : decode cc pc = .ok (.invokevirtual 192, 3)) (kk : ∀ (H1 : Heap) (locs1 : List Loc), wW t (p_clear r k) H1 → H.size ≤ H1.size → (∀ q : Nat, q < H.size → ¬ wA t q → H1[q]? = H[q]?) → va_S A H0 H1 locs1 → W p l e R s m args below meth c H1 locs1 cells slots Q (F0 m (pc + 3) ls (rest))) : W p l e R s m args below meth c H locs cells slots Q (F0 m pc ls (.int i0 :: .ref (t.2.1 0) :: rest)) := by
  subst e0
  exact kk_Wv (W.runV (As := [.int (nI k)]) (rest := rest) S (k4_empties l t r k hk) (cwV 1 S.2.2.2.2 (lw_V q687 q688 q689 q108 q690) rfl rfl rfl (by decide +kernel) ⟨hR.1, by have := hR.2.1; show 8 + (2 + 11) + 38 * 0 ≤ R.locals; omega⟩) ⟨w_blind, w_recv hK hP, w_pre hK hP⟩ rfl rfl hsz rfl (lv_room hrest) hdg ⟨hR.2.2.1, hR.2.2.2⟩) hS hA hA kk
theorem c4_areAlike (S : CallFix p m c cc nL s args lw_all RX4) (hK : wK t s) (hP : wW t r H) (hR : kRm R 1 cells slots) (hsz : ls.size = nL) (a : Nat) (q : Nat) (ha : a < 8) (hq : q < 8) {i0 : Int32} (e0 : i0 = nI a) {i1 : Int32} (e1 : i1 = nI q) (hrest : (rest.map fun v => v.category).sum ≤ 8) (hdg : decode cc pc = .ok (.invokevirtual 67, 3)) (kk : W p l e R s m args below meth c H locs cells slots Q (F0 m (pc + 3) ls (.int (b2i (r (16 + 7 * a + 1) = r (16 + 7 * q + 1) ∧ r (16 + 7 * a + 3) = r (16 + 7 * q + 3))) :: rest))) : W p l e R s m args below meth c H locs cells slots Q (F0 m pc ls (.int i1 :: .int i0 :: .ref (t.2.1 0) :: rest)) := by
  subst e0
  subst e1
  exact kk_Ri (W.runV (As := [.int (nI a), .int (nI q)]) (rest := rest) S (k4_areAlike l t r a q ha hq) (cwV 2 S.2.2.2.2 (lw_V q733 q735 qs9 q108 q736) rfl rfl rfl (by decide +kernel) ⟨hR.1, by have := hR.2.1; show 8 + (3 + 11) + 38 * 0 ≤ R.locals; omega⟩) ⟨w_blind, w_recv hK hP, w_pre hK hP⟩ rfl rfl hsz rfl (lv_room hrest) hdg ⟨hR.2.2.1, hR.2.2.2⟩) kk
end WC

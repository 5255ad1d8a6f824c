theorem cRw_8 {t : CT} {y : Nat → Rw} {k a n : Nat} {H : Heap} (h : cRw t y k a n H 8 2 .byte ∨ cRw t y k a n H 16 4 .short ∨ cRw t y k a n H 32 0 .int) (e : y 6 k = 8) : cRw t y k a n H 8 2 .byte := by
  rcases h with h | h | h
  · exact h
  · exact absurd (h.1.symm.trans e) (by decide)
  · exact absurd (h.1.symm.trans e) (by decide)
theorem cRw_16 {t : CT} {y : Nat → Rw} {k a n : Nat} {H : Heap} (h : cRw t y k a n H 8 2 .byte ∨ cRw t y k a n H 16 4 .short ∨ cRw t y k a n H 32 0 .int) (e : y 6 k = 16) : cRw t y k a n H 16 4 .short := by
  rcases h with h | h | h
  · exact absurd (h.1.symm.trans e) (by decide)
  · exact h
  · exact absurd (h.1.symm.trans e) (by decide)
theorem cRw_32 {t : CT} {y : Nat → Rw} {k a n : Nat} {H : Heap} (h : cRw t y k a n H 8 2 .byte ∨ cRw t y k a n H 16 4 .short ∨ cRw t y k a n H 32 0 .int) (e : y 6 k = 32) : cRw t y k a n H 32 0 .int := by
  rcases h with h | h | h
  · exact absurd (h.1.symm.trans e) (by decide)
  · exact absurd (h.1.symm.trans e) (by decide)
  · exact h
def wry (y : Nat → Rw) (v i w : Int32) (o : Option Nat) : Nat → Rw := match o with
  | none => va_up y 8 (upd (y 8) (40 * v.toNatClampNeg + i.toNatClampNeg) (p_nar (y 6 v.toNatClampNeg) w))
  | some _ => y
def cpy_ (y : Nat → Rw) (v f u g n : Int32) (o : Option Nat) : Nat → Rw := match o with
  | none => va_up y 8 (p_cp (y 8) (40 * v.toNatClampNeg + f.toNatClampNeg) (40 * u.toNatClampNeg + g.toNatClampNeg) n.toNatClampNeg)
  | some _ => y
set_option maxHeartbeats 4000000 in
set_option maxRecDepth 100000 in
theorem k0_lay_2 (l : Launch) (t : CT) (r : Rw) (x : Nat → Rw) (y : Nat → Rw) (a : Nat) (i : Nat) (w : Int32) (v : Nat) (hv : v < 4) (hg : cG t v = some a) (hi : i < (y 7 v).toNatClampNeg) : Met l yX0_lay_2 (ws_ yX0_lay_2 cX0_lay_2 3 none) (rmF 0) (va_Pc [.ref a, .int (nI i), .int w] (fun U => cK t U ∧ cX t r x U.heap ∧ cSh t y U.heap)) (kW none (fun H => cX t r x H ∧ cSh t (va_up y 8 (upd (y 8) (40 * v + i) (p_nar (y 6 v) w))) H) (cAS t)) 0 0 (cAS t) := by
  refine kk_start (by decide) (Nat.le_of_ble_eq_true rfl) ?_
  intro p e s m below meth c S hr hlk hin hB ls hl
  obtain ⟨hK, hP⟩ := hB
  have hx := S.1
  have hb := S.2.1
  have hown : s.vm.findClass RX0 = some m.cls := S.2.2.2.1
  have hts := S.2.2.2.2
  have hl : lv_has ls 3 [(0, .ref a), (1, .int ((nI i))), (2, .int (w))] := hl
  obtain ⟨hP, hQ⟩ := hP
  obtain ⟨hna, n_, hn40, hn7, har⟩ := hQ.row hv hg
  have hS : va_S (cAS t) s.heap s.heap [] := va_S.rf
  have hi : i < n_ := by rw [hn7, nI_clamp (by omega)] at hi; exact hi
  refine lv_aload_n hx hb dX0_lay_2_0 rfl (lv_at hl 0 rfl) ?_
  rcases har with har | har | har
  · skip
    refine sh_inst8_376 S hK har dX0_lay_2_1 ?_
    refine kb_eq0_n (tgt := 18) (a := 1) S rfl (by omega) dX0_lay_2_4 (by decide) (fun c_4 => ?_) (fun c_4 => ?_)
    · exact absurd c_4 (by first | decide | omega)
    · skip
      refine lv_aload_n hx hb dX0_lay_2_7 rfl (lv_at hl 0 rfl) ?_
      refine sh_cast8 S hK har dX0_lay_2_8 ?_
      refine lv_iload_n hx hb dX0_lay_2_11 rfl (lv_at hl 1 rfl) ?_
      refine lv_iload_n hx hb dX0_lay_2_12 rfl (lv_at hl 2 rfl) ?_
      refine lv_i2b hx hb dX0_lay_2_13 rfl ?_
      refine sh_st8 S hK har hS (Or.inr ⟨v, hv, hg⟩) hn40 i hi rfl dX0_lay_2_14 (fun H locs he oq hS => ?_)
      have hP := hP.mv (fun q hq => oq q (fun e => hna (e ▸ hq)))
      have hQ1 := sh_put8 (w := w) hQ hv hg har hna hn40 hn7 hi (by rw [har.1]; exact pk_vb w) (by rw [pk_vb]; exact fit_byte w) he oq
      refine lv_goto (tgt := 43) hx hb dX0_lay_2_15 (by decide) ?_
      exact kk_vretW S hr hlk hS ⟨hP, hQ1⟩ dX0_lay_2_43
  · skip
    refine sh_inst16_376 S hK har dX0_lay_2_1 ?_
    refine kb_eq0_n (tgt := 18) (a := 0) S rfl (by omega) dX0_lay_2_4 (by decide) (fun c_4 => ?_) (fun c_4 => ?_)
    · skip
      refine lv_aload_n hx hb dX0_lay_2_18 rfl (lv_at hl 0 rfl) ?_
      refine sh_inst16_377 S hK har dX0_lay_2_19 ?_
      refine kb_eq0_n (tgt := 36) (a := 1) S rfl (by omega) dX0_lay_2_22 (by decide) (fun c_22 => ?_) (fun c_22 => ?_)
      · exact absurd c_22 (by first | decide | omega)
      · skip
        refine lv_aload_n hx hb dX0_lay_2_25 rfl (lv_at hl 0 rfl) ?_
        refine sh_cast16 S hK har dX0_lay_2_26 ?_
        refine lv_iload_n hx hb dX0_lay_2_29 rfl (lv_at hl 1 rfl) ?_
        refine lv_iload_n hx hb dX0_lay_2_30 rfl (lv_at hl 2 rfl) ?_
        refine lv_i2s hx hb dX0_lay_2_31 rfl ?_
        refine sh_st16 S hK har hS (Or.inr ⟨v, hv, hg⟩) hn40 i hi rfl dX0_lay_2_32 (fun H locs he oq hS => ?_)
        have hP := hP.mv (fun q hq => oq q (fun e => hna (e ▸ hq)))
        have hQ1 := sh_put16 (w := w) hQ hv hg har hna hn40 hn7 hi (by rw [har.1]; exact pk_vs w) (by rw [pk_vs]; exact fit_short w) he oq
        refine lv_goto (tgt := 43) hx hb dX0_lay_2_33 (by decide) ?_
        exact kk_vretW S hr hlk hS ⟨hP, hQ1⟩ dX0_lay_2_43
    · exact absurd c_4 (by first | decide | omega)
  · skip
    refine sh_inst32_376 S hK har dX0_lay_2_1 ?_
    refine kb_eq0_n (tgt := 18) (a := 0) S rfl (by omega) dX0_lay_2_4 (by decide) (fun c_4 => ?_) (fun c_4 => ?_)
    · skip
      refine lv_aload_n hx hb dX0_lay_2_18 rfl (lv_at hl 0 rfl) ?_
      refine sh_inst32_377 S hK har dX0_lay_2_19 ?_
      refine kb_eq0_n (tgt := 36) (a := 0) S rfl (by omega) dX0_lay_2_22 (by decide) (fun c_22 => ?_) (fun c_22 => ?_)
      · skip
        refine lv_aload_n hx hb dX0_lay_2_36 rfl (lv_at hl 0 rfl) ?_
        refine sh_cast32 S hK har dX0_lay_2_37 ?_
        refine lv_iload_n hx hb dX0_lay_2_40 rfl (lv_at hl 1 rfl) ?_
        refine lv_iload_n hx hb dX0_lay_2_41 rfl (lv_at hl 2 rfl) ?_
        refine sh_st32 S hK har hS (Or.inr ⟨v, hv, hg⟩) hn40 i hi rfl dX0_lay_2_42 (fun H locs he oq hS => ?_)
        have hP := hP.mv (fun q hq => oq q (fun e => hna (e ▸ hq)))
        have hQ1 := sh_put32 (w := w) hQ hv hg har hna hn40 hn7 hi (by rw [har.1]; rfl) rfl he oq
        exact kk_vretW S hr hlk hS ⟨hP, hQ1⟩ dX0_lay_2_43
      · exact absurd c_22 (by first | decide | omega)
    · exact absurd c_4 (by first | decide | omega)
set_option maxHeartbeats 4000000 in
set_option maxRecDepth 100000 in
theorem k0_slide (l : Launch) (t : CT) (r : Rw) (x : Nat → Rw) (y : Nat → Rw) (a : Nat) (f : Nat) (c0 : Nat) (g : Nat) (n : Nat) (v : Nat) (u : Nat) (hv : v < 4) (hg : cG t v = some a) (hu : u < 4) (hgu : cG t u = some c0) (hw : y 6 v = y 6 u) (hf1 : f + n ≤ (y 7 v).toNatClampNeg) (hf2 : g + n ≤ (y 7 u).toNatClampNeg) : Met l yX0_slide (ws_ yX0_slide cX0_slide 5 none) (rmF 1) (va_Pc [.ref a, .int (nI f), .ref c0, .int (nI g), .int (nI n)] (fun U => cK t U ∧ cX t r x U.heap ∧ cSh t y U.heap)) (kW none (fun H => cX t r x H ∧ cSh t (va_up y 8 (p_cp (y 8) (40 * v + f) (40 * u + g) n)) H) (cAS t)) 0 0 (cAS t) := by
  refine kk_start (by decide) (Nat.le_of_ble_eq_true rfl) ?_
  intro p e s m below meth c S hr hlk hin hB ls hl
  obtain ⟨hK, hP⟩ := hB
  have hx := S.1
  have hb := S.2.1
  have hown : s.vm.findClass RX0 = some m.cls := S.2.2.2.1
  have hts := S.2.2.2.2
  have hl : lv_has ls 5 [(0, .ref a), (1, .int ((nI f))), (2, .ref c0), (3, .int ((nI g))), (4, .int ((nI n)))] := hl
  obtain ⟨hP, hQ⟩ := hP
  obtain ⟨hna, n_, hn40, hn7, har⟩ := hQ.row hv hg
  have hS : va_S (cAS t) s.heap s.heap [] := va_S.rf
  obtain ⟨hnc, m_, hm40, hm7, hac⟩ := hQ.row hu hgu
  have hf1 : f + n ≤ n_ := by rw [hn7, nI_clamp (by omega)] at hf1; exact hf1
  have hf2 : g + n ≤ m_ := by rw [hm7, nI_clamp (by omega)] at hf2; exact hf2
  refine lv_aload_n hx hb dX0_slide_0 rfl (lv_at hl 0 rfl) ?_
  rcases har with har | har | har
  · skip
    refine sh_inst8_376 S hK har dX0_slide_1 ?_
    refine kb_eq0_n (tgt := 25) (a := 1) S rfl (by omega) dX0_slide_4 (by decide) (fun c_4 => ?_) (fun c_4 => ?_)
    · exact absurd c_4 (by first | decide | omega)
    · skip
      have hac := cRw_8 hac (hw ▸ har.1)
      refine lv_aload_n hx hb dX0_slide_7 rfl (lv_at hl 0 rfl) ?_
      refine sh_cast8 S hK har dX0_slide_8 ?_
      refine lv_iload_n hx hb dX0_slide_11 rfl (lv_at hl 1 rfl) ?_
      refine lv_aload_n hx hb dX0_slide_12 rfl (lv_at hl 2 rfl) ?_
      refine sh_cast8 S hK hac dX0_slide_13 ?_
      refine lv_iload_n hx hb dX0_slide_16 rfl (lv_at hl 3 rfl) ?_
      refine lv_iload hx hb dX0_slide_17 (lv_at hl 4 rfl) ?_
      refine sl_cp8 S hK hP hQ hv hg hu hgu har hac hn40 hm40 hn7 hm7 hf1 hf2 (Nat.le_of_ble_eq_true rfl) (Nat.le_of_ble_eq_true rfl) hl.1 dX0_slide_19 (fun H locs hP hQ1 hS => ?_)
      refine lv_goto (tgt := 65) hx hb dX0_slide_22 (by decide) ?_
      exact kk_vretW S hr hlk hS ⟨hP, hQ1⟩ dX0_slide_65
  · skip
    refine sh_inst16_376 S hK har dX0_slide_1 ?_
    refine kb_eq0_n (tgt := 25) (a := 0) S rfl (by omega) dX0_slide_4 (by decide) (fun c_4 => ?_) (fun c_4 => ?_)
    · skip
      refine lv_aload_n hx hb dX0_slide_25 rfl (lv_at hl 0 rfl) ?_
      refine sh_inst16_377 S hK har dX0_slide_26 ?_
      refine kb_eq0_n (tgt := 50) (a := 1) S rfl (by omega) dX0_slide_29 (by decide) (fun c_29 => ?_) (fun c_29 => ?_)
      · exact absurd c_29 (by first | decide | omega)
      · skip
        have hac := cRw_16 hac (hw ▸ har.1)
        refine lv_aload_n hx hb dX0_slide_32 rfl (lv_at hl 0 rfl) ?_
        refine sh_cast16 S hK har dX0_slide_33 ?_
        refine lv_iload_n hx hb dX0_slide_36 rfl (lv_at hl 1 rfl) ?_
        refine lv_aload_n hx hb dX0_slide_37 rfl (lv_at hl 2 rfl) ?_
        refine sh_cast16 S hK hac dX0_slide_38 ?_
        refine lv_iload_n hx hb dX0_slide_41 rfl (lv_at hl 3 rfl) ?_
        refine lv_iload hx hb dX0_slide_42 (lv_at hl 4 rfl) ?_
        refine sl_cp16 S hK hP hQ hv hg hu hgu har hac hn40 hm40 hn7 hm7 hf1 hf2 (Nat.le_of_ble_eq_true rfl) (Nat.le_of_ble_eq_true rfl) hl.1 dX0_slide_44 (fun H locs hP hQ1 hS => ?_)
        refine lv_goto (tgt := 65) hx hb dX0_slide_47 (by decide) ?_
        exact kk_vretW S hr hlk hS ⟨hP, hQ1⟩ dX0_slide_65
    · exact absurd c_4 (by first | decide | omega)
  · skip
    refine sh_inst32_376 S hK har dX0_slide_1 ?_
    refine kb_eq0_n (tgt := 25) (a := 0) S rfl (by omega) dX0_slide_4 (by decide) (fun c_4 => ?_) (fun c_4 => ?_)
    · skip
      refine lv_aload_n hx hb dX0_slide_25 rfl (lv_at hl 0 rfl) ?_
      refine sh_inst32_377 S hK har dX0_slide_26 ?_
      refine kb_eq0_n (tgt := 50) (a := 0) S rfl (by omega) dX0_slide_29 (by decide) (fun c_29 => ?_) (fun c_29 => ?_)
      · skip
        have hac := cRw_32 hac (hw ▸ har.1)
        refine lv_aload_n hx hb dX0_slide_50 rfl (lv_at hl 0 rfl) ?_
        refine sh_cast32 S hK har dX0_slide_51 ?_
        refine lv_iload_n hx hb dX0_slide_54 rfl (lv_at hl 1 rfl) ?_
        refine lv_aload_n hx hb dX0_slide_55 rfl (lv_at hl 2 rfl) ?_
        refine sh_cast32 S hK hac dX0_slide_56 ?_
        refine lv_iload_n hx hb dX0_slide_59 rfl (lv_at hl 3 rfl) ?_
        refine lv_iload hx hb dX0_slide_60 (lv_at hl 4 rfl) ?_
        refine sl_cp32 S hK hP hQ hv hg hu hgu har hac hn40 hm40 hn7 hm7 hf1 hf2 (Nat.le_of_ble_eq_true rfl) (Nat.le_of_ble_eq_true rfl) hl.1 dX0_slide_62 (fun H locs hP hQ1 hS => ?_)
        exact kk_vretW S hr hlk hS ⟨hP, hQ1⟩ dX0_slide_65
      · exact absurd c_29 (by first | decide | omega)
    · exact absurd c_4 (by first | decide | omega)
section CC
variable {p : Program} {l : Launch} {e : Env} {R : Room} {s : State} {m : MethodId} {args : Array Value} {below : List Frame} {meth : Method} {c : Code} {H H0 : Heap} {locs : List Loc} {cells slots : Nat} {Q : State → Prop}
variable {cc : ByteArray} {pc nL : Nat} {ls : Array Slot} {rest : List Value} {t : CT} {r : Rw} {x : Nat → Rw}
theorem cc_lay_2 {y : Nat → Rw} (S : CallFix p m c cc nL s args lw_all RX0) (hK : cK t s) (hP : cX t r x H) (hQ : cSh t y H) (hS : va_S (cA t) H0 H locs) (hR : kRm R 1 cells slots) (hsz : ls.size = nL) {a : Nat} (i : Nat) {w : Int32} (v : Nat) (hv : v < 4) (hg : cG t v = some a) (hi : i < (y 7 v).toNatClampNeg) {i1 : Int32} (e1 : i1 = nI i) (hrest : (rest.map fun v => v.category).sum ≤ 8) (hdg : decode cc pc = .ok (.invokestatic 380, 3)) (kk : ∀ (H1 : Heap) (locs1 : List Loc), cX t r x H1 → cSh t (va_up y 8 (upd (y 8) (40 * v + i) (p_nar (y 6 v) w))) H1 → va_S (cAS t) H0 H1 locs1 → W p l e R s m args below meth c H1 locs1 cells slots Q (F0 m (pc + 3) ls (rest))) : W p l e R s m args below meth c H locs cells slots Q (F0 m pc ls (.int w :: .int i1 :: .ref a :: rest)) := by
  subst e1
  exact kk_Wv (W.runS (As := [.ref a, .int (nI i), .int w]) (rest := rest) S (k0_lay_2 l t r x y a i w v hv hg hi) (va_cwS 3 S.2.2.2.2 (lw_S q1179 q1180 q101 q1181) rfl rfl rfl (by decide +kernel) ⟨hR.1, by have := hR.2.1; show 8 + (3 + 11) + 38 * 0 ≤ R.locals; omega⟩) ⟨cS_blind, cS_pre hK hP hQ⟩ rfl rfl hsz rfl (lv_room hrest) hdg ⟨hR.2.2.1, hR.2.2.2⟩) hS.as (fun _ h => h) (fun _ h => h) (fun H1 locs1 hB _ _ hS => kk H1 locs1 hB.1 hB.2 hS)
theorem cc_slide {y : Nat → Rw} (S : CallFix p m c cc nL s args lw_all RX0) (hK : cK t s) (hP : cX t r x H) (hQ : cSh t y H) (hS : va_S (cA t) H0 H locs) (hR : kRm R 2 cells slots) (hsz : ls.size = nL) {a : Nat} (f : Nat) {c0 : Nat} (g : Nat) (n : Nat) (v : Nat) (u : Nat) (hv : v < 4) (hg : cG t v = some a) (hu : u < 4) (hgu : cG t u = some c0) (hw : y 6 v = y 6 u) (hf1 : f + n ≤ (y 7 v).toNatClampNeg) (hf2 : g + n ≤ (y 7 u).toNatClampNeg) {i1 : Int32} (e1 : i1 = nI f) {i3 : Int32} (e3 : i3 = nI g) {i4 : Int32} (e4 : i4 = nI n) (hrest : (rest.map fun v => v.category).sum ≤ 8) (hdg : decode cc pc = .ok (.invokestatic 393, 3)) (kk : ∀ (H1 : Heap) (locs1 : List Loc), cX t r x H1 → cSh t (va_up y 8 (p_cp (y 8) (40 * v + f) (40 * u + g) n)) H1 → va_S (cAS t) H0 H1 locs1 → W p l e R s m args below meth c H1 locs1 cells slots Q (F0 m (pc + 3) ls (rest))) : W p l e R s m args below meth c H locs cells slots Q (F0 m pc ls (.int i4 :: .int i3 :: .ref c0 :: .int i1 :: .ref a :: rest)) := by
  subst e1
  subst e3
  subst e4
  exact kk_Wv (W.runS (As := [.ref a, .int (nI f), .ref c0, .int (nI g), .int (nI n)]) (rest := rest) S (k0_slide l t r x y a f c0 g n v u hv hg hu hgu hw hf1 hf2) (va_cwS 5 S.2.2.2.2 (lw_S q1189 q1190 q101 q1191) rfl rfl rfl (by decide +kernel) ⟨hR.1, by have := hR.2.1; show 8 + (5 + 11) + 38 * 1 ≤ R.locals; omega⟩) ⟨cS_blind, cS_pre hK hP hQ⟩ rfl rfl hsz rfl (lv_room hrest) hdg ⟨hR.2.2.1, hR.2.2.2⟩) hS.as (fun _ h => h) (fun _ h => h) (fun H1 locs1 hB _ _ hS => kk H1 locs1 hB.1 hB.2 hS)
end CC
set_option maxHeartbeats 4000000 in
set_option maxRecDepth 100000 in
theorem k0_write (l : Launch) (t : CT) (r : Rw) (x : Nat → Rw) (y : Nat → Rw) (v : Int32) (i : Int32) (w : Int32) : Met l yX0_write (wsW_ yX0_write cX0_write 5 (some .int) [(0, 47, 48, 49)]) (rmF 3) (va_Pc [.ref (t.2.1 0), .int v, .int i, .int w] (fun U => cK t U ∧ cX t r x U.heap ∧ cSh t y U.heap)) (kW (some (.int ((o_write (mSv y) r v i).1))) (fun H => ∃ x1, cJ (fx x (o_write (mSv y) r v i).2.2) x1 ∧ cX t ((o_write (mSv y) r v i).2.1) x1 H ∧ cSh t (wry y v i w (o_write (mSv y) r v i).2.2) H) (cAS t)) 0 0 (cAS t) := by
  refine kk_startW (by decide) (Nat.le_of_ble_eq_true rfl) ?_
  intro p e s m below meth c S hr hlk hts_ hB ls hl
  obtain ⟨hK, hP⟩ := hB
  have hx := S.1
  have hb := S.2.1
  have hown : s.vm.findClass RX0 = some m.cls := S.2.2.2.1
  have hts := S.2.2.2.2
  have hS : va_S (cA t) s.heap s.heap [] := va_S.rf
  have hl : lv_has ls 5 [(0, .ref (t.2.1 0)), (1, .int (v)), (2, .int (i)), (3, .int (w))] := hl
  obtain ⟨hP, hQ⟩ := hP
  refine lv_aload_n hx hb dX0_write_0 rfl (lv_at hl 0 rfl) ?_
  refine lv_iload_n hx hb dX0_write_1 rfl (lv_at hl 1 rfl) ?_
  refine cc_rowAt S hK hP hS (rm_ok (Nat.le_of_ble_eq_true rfl)) hl.1 (Nat.le_of_ble_eq_true rfl) dX0_write_2 (fun ho_2 H locs hP hS => ?_) (fun j_2 ho_2 H locs hP hS => ?_)
  · skip
    have hv4 := oif_n.mp ho_2
    obtain ⟨v_, hv_, rfl⟩ := nat_of_lt (n := 4) rfl (by omega) hv4
    have hcl_v_ := nI_clamp (n := v_) (by omega)
    rcases hg : cG t v_ with _ | g_
    · skip
      refine kb_val (y := .null) (by rw [hcl_v_, hg]; rfl) ?_
      have hq_ := hQ.nn hv_ hg
      refine lv_astoreN (lv' := [(4, .null), (0, .ref (t.2.1 0)), (1, .int ((nI v_))), (2, .int (i)), (3, .int (w))]) hx hb dX0_write_5 hl (by decide) rfl (fun ls hl => ?_)
      refine lv_aload_n hx hb dX0_write_7 rfl (lv_at hl 1 rfl) ?_
      refine lv_aloadN hx hb dX0_write_8 (lv_at hl 0 rfl) ?_
      refine lv_ifnullN (tgt := 17) hx hb dX0_write_10 (by decide) ?_
      refine lv_iconst (v := 0) hx hb dX0_write_17 (by decide) ?_
      refine lv_iconst (v := 5) hx hb dX0_write_18 (by decide) ?_
      refine cc_need0 S hK hP hS (rm_ok (Nat.le_of_ble_eq_true rfl)) hl.1 (5) (by decide) rfl (Nat.le_of_ble_eq_true rfl) dX0_write_19 (fun H locs hP hS => ?_)
      refine cx_catch S hK hP hts_ (by decide) (by decide) ?_
      refine lv_astore (lv' := [(4, .ref (t.2.1 2)), (0, .ref (t.2.1 0)), (1, .int ((nI v_))), (2, .int (i)), (3, .int (w))]) hx hb dX0_write_48 hl (by decide) rfl (fun ls hl => ?_)
      refine lv_aload_n hx hb dX0_write_50 rfl (lv_at hl 1 rfl) ?_
      refine lv_aload hx hb dX0_write_51 (lv_at hl 0 rfl) ?_
      refine cgr_finding S hK hP dX0_write_53 ?_
      refine cc_finding S hK hP hS (rm_ok (Nat.le_of_ble_eq_true rfl)) hl.1 (5) (by decide) rfl (Nat.le_of_ble_eq_true rfl) dX0_write_56 (fun H locs hP hS => ?_)
      exact kk_iretW S hr hlk hS.as (by simp only [o_write, hv4, hcl_v_, hq_, reduceIte, and_self, oF, fx, wry]; exact ⟨_, (((cJ.rf _)).j12).fnd 5, hP, hQ.keep hS⟩) (by simp only [o_write, hv4, hcl_v_, hq_, reduceIte, and_self, oF]) dX0_write_59
    · skip
      refine kb_val (y := .ref g_) (by rw [hcl_v_, hg]; rfl) ?_
      have hq_ := hQ.sm hv_ hg
      obtain ⟨hn7, hn40⟩ := (hQ.row hv_ hg).len
      refine lv_astore (lv' := [(4, .ref g_), (0, .ref (t.2.1 0)), (1, .int ((nI v_))), (2, .int (i)), (3, .int (w))]) hx hb dX0_write_5 hl (by decide) rfl (fun ls hl => ?_)
      refine lv_aload_n hx hb dX0_write_7 rfl (lv_at hl 1 rfl) ?_
      refine lv_aload hx hb dX0_write_8 (lv_at hl 0 rfl) ?_
      refine lv_ifnull hx hb dX0_write_10 ?_
      refine lv_iconst (v := 1) hx hb dX0_write_13 (by decide) ?_
      refine lv_goto (tgt := 18) hx hb dX0_write_14 (by decide) ?_
      refine lv_iconst (v := 5) hx hb dX0_write_18 (by decide) ?_
      refine cc_need1 S hK hP hS (rm_ok (Nat.le_of_ble_eq_true rfl)) hl.1 (5) (by decide) rfl (Nat.le_of_ble_eq_true rfl) dX0_write_19 (fun H locs hP hS => ?_)
      refine lv_aload_n hx hb dX0_write_22 rfl (lv_at hl 1 rfl) ?_
      refine lv_iload_n hx hb dX0_write_23 rfl (lv_at hl 3 rfl) ?_
      refine lv_iconst (v := 0) hx hb dX0_write_24 (by decide) ?_
      refine lv_aload hx hb dX0_write_25 (lv_at hl 0 rfl) ?_
      refine cc_length S hK hP (hQ.keep hS) (rm_ok (Nat.le_of_ble_eq_true rfl)) hl.1 (v_) hv_ hg (Nat.le_of_ble_eq_true rfl) dX0_write_27 ?_
      refine lv_iconst (v := 1) hx hb dX0_write_30 (by decide) ?_
      refine lv_isub hx hb dX0_write_31 ?_
      refine cc_in S (rm_ok (Nat.le_of_ble_eq_true rfl)) hl.1 (Nat.le_of_ble_eq_true rfl) dX0_write_32 ?_
      refine lv_iconst (v := 0) hx hb dX0_write_35 (by decide) ?_
      refine cc_need S hK hP hS (rm_ok (Nat.le_of_ble_eq_true rfl)) hl.1 (0) (by omega) rfl (Nat.le_of_ble_eq_true rfl) dX0_write_36 (fun ho_36 H locs hP hS => ?_) (fun j_36 ho_36 H locs hP hS => ?_)
      · skip
        have hiv := oif_n.mp ho_36
        rw [hn7] at hiv
        obtain ⟨i_, hi_, rfl⟩ := ix_lt hn40 hiv
        have hcl_i_ := nI_clamp (n := i_) (by omega)
        refine lv_aload hx hb dX0_write_39 (lv_at hl 0 rfl) ?_
        refine lv_iload_n hx hb dX0_write_41 rfl (lv_at hl 3 rfl) ?_
        refine lv_iload_n hx hb dX0_write_42 rfl (lv_at hl 4 rfl) ?_
        refine cc_lay_2 S hK hP (hQ.keep hS) hS (rm_ok (Nat.le_of_ble_eq_true rfl)) hl.1 (i_) (v_) hv_ hg hi_ rfl (Nat.le_of_ble_eq_true rfl) dX0_write_43 (fun H locs hP hQ1 hS => ?_)
        refine lv_iconst (v := 1) hx hb dX0_write_46 (by decide) ?_
        exact kk_iretW S hr hlk hS (by simp only [o_write, hv4, hcl_v_, hq_, reduceIte, and_self, hiv, oK, fx, wry, hcl_i_]; exact ⟨_, (cJ.rf _), hP, hQ1⟩) (by simp only [o_write, hv4, hcl_v_, hq_, reduceIte, and_self, hiv, oK]) dX0_write_47
      · skip
        obtain ⟨hiv, hj_⟩ := oif_s.mp ho_36
        rw [hn7] at hiv
        subst hj_
        refine cx_catch S hK hP hts_ (by decide) (by decide) ?_
        refine lv_astore (lv' := [(4, .ref (t.2.1 2)), (0, .ref (t.2.1 0)), (1, .int ((nI v_))), (2, .int (i)), (3, .int (w))]) hx hb dX0_write_48 hl (by decide) rfl (fun ls hl => ?_)
        refine lv_aload_n hx hb dX0_write_50 rfl (lv_at hl 1 rfl) ?_
        refine lv_aload hx hb dX0_write_51 (lv_at hl 0 rfl) ?_
        refine cgr_finding S hK hP dX0_write_53 ?_
        refine cc_finding S hK hP hS (rm_ok (Nat.le_of_ble_eq_true rfl)) hl.1 (0) (by decide) rfl (Nat.le_of_ble_eq_true rfl) dX0_write_56 (fun H locs hP hS => ?_)
        exact kk_iretW S hr hlk hS.as (by simp only [o_write, hv4, hcl_v_, hq_, reduceIte, and_self, hiv, oF, fx, wry]; exact ⟨_, (((cJ.rf _)).j12).fnd 0, hP, hQ.keep hS⟩) (by simp only [o_write, hv4, hcl_v_, hq_, reduceIte, and_self, hiv, oF]) dX0_write_59
  · skip
    obtain ⟨hv4, hj_⟩ := oif_s.mp ho_2
    subst hj_
    refine cx_catch S hK hP hts_ (by decide) (by decide) ?_
    refine lv_astore (lv' := [(4, .ref (t.2.1 2)), (0, .ref (t.2.1 0)), (1, .int (v)), (2, .int (i)), (3, .int (w))]) hx hb dX0_write_48 hl (by decide) rfl (fun ls hl => ?_)
    refine lv_aload_n hx hb dX0_write_50 rfl (lv_at hl 1 rfl) ?_
    refine lv_aload hx hb dX0_write_51 (lv_at hl 0 rfl) ?_
    refine cgr_finding S hK hP dX0_write_53 ?_
    refine cc_finding S hK hP hS (rm_ok (Nat.le_of_ble_eq_true rfl)) hl.1 (0) (by decide) rfl (Nat.le_of_ble_eq_true rfl) dX0_write_56 (fun H locs hP hS => ?_)
    exact kk_iretW S hr hlk hS.as (by simp only [o_write, hv4, reduceIte, oF, fx, wry]; exact ⟨_, (((cJ.rf _)).j12).fnd 0, hP, hQ.keep hS⟩) (by simp only [o_write, hv4, reduceIte, oF]) dX0_write_59

/-! COMPONENT: what of its rows counts; returns of references; small static methods; the worlds' methods over the region -/
/-- what x' keeps of x: kept, findings, the tape, isKept, taped -/
def cJ (x x' : Nat → Rw) : Prop := x' 1 = x 1 ∧ x' 4 = x 4 ∧ x' 5 = x 5 ∧ x' 9 0 = x 9 0 ∧ x' 9 1 = x 9 1
theorem cJ.rf (x : Nat → Rw) : cJ x x := ⟨rfl, rfl, rfl, rfl, rfl⟩
theorem cJ.tr {x y z : Nat → Rw} (h : cJ x y) (k : cJ y z) : cJ x z := ⟨k.1.trans h.1, k.2.1.trans h.2.1, k.2.2.1.trans h.2.2.1, k.2.2.2.1.trans h.2.2.2.1, k.2.2.2.2.trans h.2.2.2.2⟩
theorem cJ.j3 {x y : Nat → Rw} {f : Rw} (h : cJ x y) : cJ x (va_up y 3 f) := h
theorem cJ.j2 {x y : Nat → Rw} {f : Rw} (h : cJ x y) : cJ x (va_up y 2 f) := h
theorem cJ.j10 {x y : Nat → Rw} {f : Rw} (h : cJ x y) : cJ x (va_up y 10 f) := h
theorem cJ.j11 {x y : Nat → Rw} {f : Rw} (h : cJ x y) : cJ x (va_up y 11 f) := h
theorem cJ.j12 {x y : Nat → Rw} {f : Rw} (h : cJ x y) : cJ x (va_up y 12 f) := h
theorem cJ.j9 {x y : Nat → Rw} {v : Int32} (h : cJ x y) : cJ x (va_up y 9 (upd (y 9) 2 v)) := h
theorem cJ.p1 {x y : Nat → Rw} {f : Rw} (h : cJ x y) : cJ (va_up x 1 f) (va_up y 1 f) := ⟨rfl, h.2.1, h.2.2.1, h.2.2.2.1, h.2.2.2.2⟩
theorem cJ.p9t {x y : Nat → Rw} {v : Int32} (h : cJ x y) : cJ (va_up x 9 (upd (x 9) 1 v)) (va_up y 9 (upd (y 9) 1 v)) := ⟨h.1, h.2.1, h.2.2.1, h.2.2.2.1, rfl⟩
theorem cJ.p9k {x y : Nat → Rw} {v : Int32} (h : cJ x y) : cJ (va_up x 9 (upd (x 9) 0 v)) (va_up y 9 (upd (y 9) 0 v)) := ⟨h.1, h.2.1, h.2.2.1, rfl, h.2.2.2.2⟩
theorem cJ.fnd {x y : Nat → Rw} (h : cJ x y) (j : Nat) : cJ (va_up x 4 (p_fnd (x 4) j)) (va_up y 4 (p_fnd (y 4) j)) := ⟨h.1, by show p_fnd (y 4) j = p_fnd (x 4) j; rw [h.2.1], h.2.2.1, h.2.2.2.1, h.2.2.2.2⟩
theorem cJ.fx {x y : Nat → Rw} (h : cJ x y) (o : Option Nat) : cJ (fx x o) (fx y o) := by
  cases o with
  | none => exact h
  | some j => exact h.fnd j
section CB
variable {p : Program} {l : Launch} {e : Env} {R : Room} {s : State} {m : MethodId} {args : Array Value} {below : List Frame} {meth : Method} {c : Code} {H H0 : Heap} {locs : List Loc} {cells slots : Nat} {Q : State → Prop}
variable {cc : ByteArray} {pc nL : Nat} {ls : Array Slot} {rest st0 : List Value} {own : String} {a : Array Value} {free A0 A1 : Nat → Prop}
theorem kk_Wa {v : Value} {B : Heap → Prop} (hr : CallRun p l e R s m args below meth c H locs cells slots 0 0 (F0 m pc ls st0) rest (kW (some v) B A1 a) free) (hS : va_S A0 H0 H locs) (hA : ∀ q, A1 q → A0 q) (hf : ∀ q, free q → A0 q)
    (kk : ∀ (H1 : Heap) (locs1 : List Loc), B H1 → H.size ≤ H1.size → (∀ q : Nat, q < H.size → ¬ A1 q → H1[q]? = H[q]?) → va_S A0 H0 H1 locs1 → W p l e R s m args below meth c H1 locs1 cells slots Q (F0 m (pc + 3) ls (v :: rest))) : W p l e R s m args below meth c H locs cells slots Q (F0 m pc ls st0) := by
  intro T hT X
  obtain ⟨v, st₀, t, T', L, h0, X', hL, e1, ⟨hv, hb, hz, hk⟩, st⟩ := hr T hT X
  cases hv
  rw [h0] at hz hk
  obtain ⟨t2, a1, b1⟩ := kk T'.heap (locs ++ L) (by rw [e1]; exact hb) (by rw [e1]; exact hz) (fun q h1 h2 => by rw [e1]; exact hk q h1 h2)
    ⟨Nat.le_trans hS.1 (by rw [e1]; exact hz), fun q h1 h2 => by rw [e1, hk q (Nat.lt_of_lt_of_le h1 hS.1) (fun z => h2 (hA q z))]; exact hS.2.1 q h1 h2, fun q hq => by
      rcases List.mem_append.mp hq with h | h
      · exact hS.2.2 q h
      · exact hf _ (hL q h)⟩ T' rfl X'
  exact ⟨t2, st t2 a1, b1⟩
theorem kk_Wl {v : Int64} {B : Heap → Prop} (hr : CallRun p l e R s m args below meth c H locs cells slots 0 0 (F0 m pc ls st0) rest (kW (some (.long v)) B A1 a) free) (hS : va_S A0 H0 H locs) (hA : ∀ q, A1 q → A0 q) (hf : ∀ q, free q → A0 q)
    (kk : ∀ (H1 : Heap) (locs1 : List Loc), B H1 → H.size ≤ H1.size → (∀ q : Nat, q < H.size → ¬ A1 q → H1[q]? = H[q]?) → va_S A0 H0 H1 locs1 → W p l e R s m args below meth c H1 locs1 cells slots Q (F0 m (pc + 3) ls (.long v :: rest))) : W p l e R s m args below meth c H locs cells slots Q (F0 m pc ls st0) := kk_Wa hr hS hA hf kk
theorem kk_aretR {v v' : Value} {rt : FieldType} (S : CallFix p m c cc nL s args lw_all own) (hr : meth.sig.returnType = some rt) (hrt : (∃ n, rt = .object n) ∨ ∃ t, rt = .array t) (hn : v = .null ∨ ∃ a, v = .ref a) (hlocks : meth.locks = false) (hH : H = s.heap) (hL : locs = []) (hv : v = v') (hdg : decode cc pc = .ok (.areturn, 1)) : W p l e R s m args below meth c H locs cells slots (MQ below (kR (some v')) args s cells slots (fun _ => False)) (F0 m pc ls [v]) := by
  subst hv
  exact W.aret S.1 S.2.1 hr hrt hn (fun t ht _ => ⟨rfl, ht.trans hH⟩) (fun q hq => by rw [hL] at hq; cases hq) hdg hlocks
theorem kk_aretW {v v' : Value} {rt : FieldType} {B : Heap → Prop} {A : Nat → Prop} (S : CallFix p m c cc nL s args lw_all own) (hr : meth.sig.returnType = some rt) (hrt : (∃ n, rt = .object n) ∨ ∃ t, rt = .array t) (hn : v = .null ∨ ∃ a, v = .ref a) (hlocks : meth.locks = false) (hS : va_S A s.heap H locs) (hB : B H) (hv : v = v') (hdg : decode cc pc = .ok (.areturn, 1)) : W p l e R s m args below meth c H locs cells slots (MQ below (kW (some v') B A) args s cells slots A) (F0 m pc ls [v]) := by
  subst hv
  exact W.aret S.1 S.2.1 hr hrt hn (fun t ht _ => ⟨rfl, by rw [ht]; exact hB, hS.F ht⟩) hS.2.2 hdg hlocks
end CB
set_option maxHeartbeats 4000000 in
set_option maxRecDepth 100000 in
theorem k0_in (l : Launch) (v : Int32) (lo : Int32) (hi : Int32) : Met l yX0_in (ws_ yX0_in cX0_in 3 (some .boolean)) (rmF 0) (va_Pc [.int v, .int lo, .int hi] (fun _ => True)) (kR (some (.int (b2i (lo ≤ v ∧ v ≤ hi))))) 0 0 (fun _ => False) := by
  refine kk_start (by decide) (Nat.le_of_ble_eq_true rfl) ?_
  intro p e s m below meth c S hr hlk hin hB ls hl
  have hx := S.1
  have hb := S.2.1
  have hown : s.vm.findClass RX0 = some m.cls := S.2.2.2.1
  have hts := S.2.2.2.2
  have hl : lv_has ls 3 [(0, .int (v)), (1, .int (lo)), (2, .int (hi))] := hl
  refine lv_iload_n hx hb dX0_in_0 rfl (lv_at hl 0 rfl) ?_
  refine lv_iload_n hx hb dX0_in_1 rfl (lv_at hl 1 rfl) ?_
  refine lv_icmp_lt (tgt := 14) hx hb dX0_in_2 (by decide) (fun c_2 => ?_) (fun c_2 => ?_)
  · skip
    refine lv_iconst (v := 0) hx hb dX0_in_14 (by decide) ?_
    exact kk_zfR S hr hlk rfl rfl (by grind) dX0_in_15
  · skip
    refine lv_iload_n hx hb dX0_in_5 rfl (lv_at hl 0 rfl) ?_
    refine lv_iload_n hx hb dX0_in_6 rfl (lv_at hl 2 rfl) ?_
    refine lv_icmp_gt (tgt := 14) hx hb dX0_in_7 (by decide) (fun c_7 => ?_) (fun c_7 => ?_)
    · skip
      refine lv_iconst (v := 0) hx hb dX0_in_14 (by decide) ?_
      exact kk_zfR S hr hlk rfl rfl (by grind) dX0_in_15
    · skip
      refine lv_iconst (v := 1) hx hb dX0_in_10 (by decide) ?_
      refine lv_goto (tgt := 15) hx hb dX0_in_11 (by decide) ?_
      exact kk_ztR S hr hlk rfl rfl (by grind) dX0_in_15
set_option maxHeartbeats 4000000 in
set_option maxRecDepth 100000 in
theorem k0_ones (l : Launch) (a : Nat) (h0 : a < 256) : Met l yX0_ones (ws_ yX0_ones cX0_ones 1 (some .int)) (rmF 1) (va_Pc [.int (nI a)] (fun _ => True)) (kR (some (.int (nI (p_many a))))) 0 0 (fun _ => False) := by
  refine kk_start (by decide) (Nat.le_of_ble_eq_true rfl) ?_
  intro p e s m below meth c S hr hlk hin hB ls hl
  have hx := S.1
  have hb := S.2.1
  have hown : s.vm.findClass RX0 = some m.cls := S.2.2.2.1
  have hts := S.2.2.2.2
  have hl : lv_has ls 1 [(0, .int ((nI a)))] := hl
  refine lv_iload_n hx hb dX0_ones_0 rfl (lv_at hl 0 rfl) ?_
  refine c0_bitCount S (rm_ok (Nat.le_of_ble_eq_true rfl)) hl.1 (a) (by omega) rfl (Nat.le_of_ble_eq_true rfl) dX0_ones_1 ?_
  exact kk_iretR S hr hlk rfl rfl (rfl) dX0_ones_4
section CC
variable {p : Program} {l : Launch} {e : Env} {R : Room} {s : State} {m : MethodId} {args : Array Value} {below : List Frame} {meth : Method} {c : Code} {H H0 : Heap} {locs : List Loc} {cells slots : Nat} {Q : State → Prop}
variable {cc : ByteArray} {pc nL : Nat} {ls : Array Slot} {rest : List Value} {t : CT} {r : Rw} {x : Nat → Rw}
theorem cc_in (S : CallFix p m c cc nL s args lw_all RX0) (hR : kRm R 1 cells slots) (hsz : ls.size = nL) {v : Int32} {lo : Int32} {hi : Int32} (hrest : (rest.map fun v => v.category).sum ≤ 8) (hdg : decode cc pc = .ok (.invokestatic 9, 3)) (kk : W p l e R s m args below meth c H locs cells slots Q (F0 m (pc + 3) ls (.int (b2i (lo ≤ v ∧ v ≤ hi)) :: rest))) : W p l e R s m args below meth c H locs cells slots Q (F0 m pc ls (.int hi :: .int lo :: .int v :: rest)) := by
  exact kk_Ri (W.runS (As := [.int v, .int lo, .int hi]) (rest := rest) S (k0_in l v lo hi) (va_cwS 3 S.2.2.2.2 (lw_S q453 q454 q101 q455) rfl rfl rfl (by decide +kernel) ⟨hR.1, by have := hR.2.1; show 8 + (3 + 11) + 38 * 0 ≤ R.locals; omega⟩) ⟨kk_blindT, fun U hU hW => ⟨rfl, trivial⟩⟩ rfl rfl hsz rfl (lv_room hrest) hdg ⟨hR.2.2.1, hR.2.2.2⟩) kk
theorem cc_in_X2 (S : CallFix p m c cc nL s args lw_all RX2) (hK : cK t s) (hR : kRm R 1 cells slots) (hsz : ls.size = nL) {v : Int32} {lo : Int32} {hi : Int32} (hrest : (rest.map fun v => v.category).sum ≤ 8) (hdg : decode cc pc = .ok (.invokestatic 33, 3)) (kk : W p l e R s m args below meth c H locs cells slots Q (F0 m (pc + 3) ls (.int (b2i (lo ≤ v ∧ v ≤ hi)) :: rest))) : W p l e R s m args below meth c H locs cells slots Q (F0 m pc ls (.int hi :: .int lo :: .int v :: rest)) := by
  exact kk_Ri ((va_runSN (As := [.int v, .int lo, .int hi]) (rest := rest) S (k0_in l v lo hi) ⟨va_cnB 3 S.2.2.2.2 (lw_meth q455) rfl rfl rfl (hK.m (w := ("ThunderCasks$Reader", 33, ⟨"ThunderCasks", "in", "(III)Z"⟩, "ThunderCasks")) 3 rfl) (S.2.2.2.2 _ q101) (by decide +kernel) ⟨hR.1, by have := hR.2.1; show 8 + (3 + 11) + 38 * 0 ≤ R.locals; omega⟩, S.2.2.2.2 _ q454, trivial⟩ ⟨kk_blindT, fun U hU hW => ⟨rfl, trivial⟩⟩ rfl rfl hsz rfl (lv_room hrest) hdg ⟨hR.2.2.1, hR.2.2.2⟩).run) kk
theorem cc_ones (S : CallFix p m c cc nL s args lw_all RX0) (hR : kRm R 2 cells slots) (hsz : ls.size = nL) (a : Nat) (h0 : a < 256) {i0 : Int32} (e0 : i0 = nI a) (hrest : (rest.map fun v => v.category).sum ≤ 8) (hdg : decode cc pc = .ok (.invokestatic 272, 3)) (kk : W p l e R s m args below meth c H locs cells slots Q (F0 m (pc + 3) ls (.int (nI (p_many a)) :: rest))) : W p l e R s m args below meth c H locs cells slots Q (F0 m pc ls (.int i0 :: rest)) := by
  subst e0
  exact kk_Ri (W.runS (As := [.int (nI a)]) (rest := rest) S (k0_ones l a h0) (va_cwS 1 S.2.2.2.2 (lw_S q905 q576 q101 q577) rfl rfl rfl (by decide +kernel) ⟨hR.1, by have := hR.2.1; show 8 + (1 + 11) + 38 * 1 ≤ R.locals; omega⟩) ⟨kk_blindT, fun U hU hW => ⟨rfl, trivial⟩⟩ rfl rfl hsz rfl (lv_room hrest) hdg ⟨hR.2.2.1, hR.2.2.2⟩) kk
theorem cc_ones_X10 (S : CallFix p m c cc nL s args lw_all RX10) (hK : cK t s) (hR : kRm R 2 cells slots) (hsz : ls.size = nL) (a : Nat) (h0 : a < 256) {i0 : Int32} (e0 : i0 = nI a) (hrest : (rest.map fun v => v.category).sum ≤ 8) (hdg : decode cc pc = .ok (.invokestatic 35, 3)) (kk : W p l e R s m args below meth c H locs cells slots Q (F0 m (pc + 3) ls (.int (nI (p_many a)) :: rest))) : W p l e R s m args below meth c H locs cells slots Q (F0 m pc ls (.int i0 :: rest)) := by
  subst e0
  exact kk_Ri ((va_runSN (As := [.int (nI a)]) (rest := rest) S (k0_ones l a h0) ⟨va_cnB 1 S.2.2.2.2 (lw_meth q577) rfl rfl rfl (hK.m (w := ("ThunderCasks$Echo", 35, ⟨"ThunderCasks", "ones", "(I)I"⟩, "ThunderCasks")) 2 rfl) (S.2.2.2.2 _ q101) (by decide +kernel) ⟨hR.1, by have := hR.2.1; show 8 + (1 + 11) + 38 * 1 ≤ R.locals; omega⟩, S.2.2.2.2 _ q576, trivial⟩ ⟨kk_blindT, fun U hU hW => ⟨rfl, trivial⟩⟩ rfl rfl hsz rfl (lv_room hrest) hdg ⟨hR.2.2.1, hR.2.2.2⟩).run) kk
end CC
set_option maxHeartbeats 4000000 in
set_option maxRecDepth 100000 in
theorem k0_isSheet (l : Launch) (v : Int32) : Met l yX0_isSheet (ws_ yX0_isSheet cX0_isSheet 1 (some .boolean)) (rmF 1) (va_Pc [.int v] (fun _ => True)) (kR (some (.int (b2i (0 ≤ v ∧ v < 4))))) 0 0 (fun _ => False) := by
  refine kk_start (by decide) (Nat.le_of_ble_eq_true rfl) ?_
  intro p e s m below meth c S hr hlk hin hB ls hl
  have hx := S.1
  have hb := S.2.1
  have hown : s.vm.findClass RX0 = some m.cls := S.2.2.2.1
  have hts := S.2.2.2.2
  have hl : lv_has ls 1 [(0, .int (v))] := hl
  refine lv_iload_n hx hb dX0_isSheet_0 rfl (lv_at hl 0 rfl) ?_
  refine lv_iconst (v := 0) hx hb dX0_isSheet_1 (by decide) ?_
  refine lv_iconst (v := 3) hx hb dX0_isSheet_2 (by decide) ?_
  refine cc_in S (rm_ok (Nat.le_of_ble_eq_true rfl)) hl.1 (Nat.le_of_ble_eq_true rfl) dX0_isSheet_3 ?_
  exact kk_zretR (ty := .boolean) S hr hlk rfl rfl (by grind) dX0_isSheet_6
set_option maxHeartbeats 4000000 in
set_option maxRecDepth 100000 in
theorem k0_isSpot (l : Launch) (v : Int32) : Met l yX0_isSpot (ws_ yX0_isSpot cX0_isSpot 1 (some .boolean)) (rmF 1) (va_Pc [.int v] (fun _ => True)) (kR (some (.int (b2i (0 ≤ v ∧ v ≤ 9))))) 0 0 (fun _ => False) := by
  refine kk_start (by decide) (Nat.le_of_ble_eq_true rfl) ?_
  intro p e s m below meth c S hr hlk hin hB ls hl
  have hx := S.1
  have hb := S.2.1
  have hown : s.vm.findClass RX0 = some m.cls := S.2.2.2.1
  have hts := S.2.2.2.2
  have hl : lv_has ls 1 [(0, .int (v))] := hl
  refine lv_iload_n hx hb dX0_isSpot_0 rfl (lv_at hl 0 rfl) ?_
  refine lv_iconst (v := 0) hx hb dX0_isSpot_1 (by decide) ?_
  refine lv_bipush (v := 9) hx hb dX0_isSpot_2 (by decide) ?_
  refine cc_in S (rm_ok (Nat.le_of_ble_eq_true rfl)) hl.1 (Nat.le_of_ble_eq_true rfl) dX0_isSpot_4 ?_
  exact kk_zretR (ty := .boolean) S hr hlk rfl rfl (by grind) dX0_isSpot_7
set_option maxHeartbeats 4000000 in
set_option maxRecDepth 100000 in
theorem k0_isKind (l : Launch) (v : Int32) : Met l yX0_isKind (ws_ yX0_isKind cX0_isKind 1 (some .boolean)) (rmF 1) (va_Pc [.int v] (fun _ => True)) (kR (some (.int (b2i (0 ≤ v ∧ v ≤ 6))))) 0 0 (fun _ => False) := by
  refine kk_start (by decide) (Nat.le_of_ble_eq_true rfl) ?_
  intro p e s m below meth c S hr hlk hin hB ls hl
  have hx := S.1
  have hb := S.2.1
  have hown : s.vm.findClass RX0 = some m.cls := S.2.2.2.1
  have hts := S.2.2.2.2
  have hl : lv_has ls 1 [(0, .int (v))] := hl
  refine lv_iload_n hx hb dX0_isKind_0 rfl (lv_at hl 0 rfl) ?_
  refine lv_iconst (v := 0) hx hb dX0_isKind_1 (by decide) ?_
  refine lv_bipush (v := 6) hx hb dX0_isKind_2 (by decide) ?_
  refine cc_in S (rm_ok (Nat.le_of_ble_eq_true rfl)) hl.1 (Nat.le_of_ble_eq_true rfl) dX0_isKind_4 ?_
  exact kk_zretR (ty := .boolean) S hr hlk rfl rfl (by grind) dX0_isKind_7
set_option maxHeartbeats 4000000 in
set_option maxRecDepth 100000 in
theorem k0_isCellar (l : Launch) (v : Int32) : Met l yX0_isCellar (ws_ yX0_isCellar cX0_isCellar 1 (some .boolean)) (rmF 1) (va_Pc [.int v] (fun _ => True)) (kR (some (.int (b2i (0 ≤ v ∧ v < 6))))) 0 0 (fun _ => False) := by
  refine kk_start (by decide) (Nat.le_of_ble_eq_true rfl) ?_
  intro p e s m below meth c S hr hlk hin hB ls hl
  have hx := S.1
  have hb := S.2.1
  have hown : s.vm.findClass RX0 = some m.cls := S.2.2.2.1
  have hts := S.2.2.2.2
  have hl : lv_has ls 1 [(0, .int (v))] := hl
  refine lv_iload_n hx hb dX0_isCellar_0 rfl (lv_at hl 0 rfl) ?_
  refine lv_iconst (v := 0) hx hb dX0_isCellar_1 (by decide) ?_
  refine lv_iconst (v := 5) hx hb dX0_isCellar_2 (by decide) ?_
  refine cc_in S (rm_ok (Nat.le_of_ble_eq_true rfl)) hl.1 (Nat.le_of_ble_eq_true rfl) dX0_isCellar_3 ?_
  exact kk_zretR (ty := .boolean) S hr hlk rfl rfl (by grind) dX0_isCellar_6
set_option maxHeartbeats 4000000 in
set_option maxRecDepth 100000 in
theorem k0_isStorm (l : Launch) (v : Int32) : Met l yX0_isStorm (ws_ yX0_isStorm cX0_isStorm 1 (some .boolean)) (rmF 1) (va_Pc [.int v] (fun _ => True)) (kR (some (.int (b2i (0 ≤ v ∧ v ≤ 99))))) 0 0 (fun _ => False) := by
  refine kk_start (by decide) (Nat.le_of_ble_eq_true rfl) ?_
  intro p e s m below meth c S hr hlk hin hB ls hl
  have hx := S.1
  have hb := S.2.1
  have hown : s.vm.findClass RX0 = some m.cls := S.2.2.2.1
  have hts := S.2.2.2.2
  have hl : lv_has ls 1 [(0, .int (v))] := hl
  refine lv_iload_n hx hb dX0_isStorm_0 rfl (lv_at hl 0 rfl) ?_
  refine lv_iconst (v := 0) hx hb dX0_isStorm_1 (by decide) ?_
  refine lv_bipush (v := 99) hx hb dX0_isStorm_2 (by decide) ?_
  refine cc_in S (rm_ok (Nat.le_of_ble_eq_true rfl)) hl.1 (Nat.le_of_ble_eq_true rfl) dX0_isStorm_4 ?_
  exact kk_zretR (ty := .boolean) S hr hlk rfl rfl (by grind) dX0_isStorm_7
set_option maxHeartbeats 4000000 in
set_option maxRecDepth 100000 in
theorem k0_isBlend (l : Launch) (v : Int32) : Met l yX0_isBlend (ws_ yX0_isBlend cX0_isBlend 1 (some .boolean)) (rmF 1) (va_Pc [.int v] (fun _ => True)) (kR (some (.int (b2i (0 ≤ v ∧ v ≤ 9999))))) 0 0 (fun _ => False) := by
  refine kk_start (by decide) (Nat.le_of_ble_eq_true rfl) ?_
  intro p e s m below meth c S hr hlk hin hB ls hl
  have hx := S.1
  have hb := S.2.1
  have hown : s.vm.findClass RX0 = some m.cls := S.2.2.2.1
  have hts := S.2.2.2.2
  have hl : lv_has ls 1 [(0, .int (v))] := hl
  refine lv_iload_n hx hb dX0_isBlend_0 rfl (lv_at hl 0 rfl) ?_
  refine lv_iconst (v := 0) hx hb dX0_isBlend_1 (by decide) ?_
  refine lv_sipush (v := 9999) hx hb dX0_isBlend_2 (by decide) ?_
  refine cc_in S (rm_ok (Nat.le_of_ble_eq_true rfl)) hl.1 (Nat.le_of_ble_eq_true rfl) dX0_isBlend_5 ?_
  exact kk_zretR (ty := .boolean) S hr hlk rfl rfl (by grind) dX0_isBlend_8
set_option maxHeartbeats 4000000 in
set_option maxRecDepth 100000 in
theorem k0_has (l : Launch) (a : Nat) (k : Nat) (ha : a < 2 ^ 31) (hk : k < 31) : Met l yX0_has (ws_ yX0_has cX0_has 2 (some .boolean)) (rmF 0) (va_Pc [.int (nI a), .int (nI k)] (fun _ => True)) (kR (some (.int (b2i ((a / 2 ^ k) &&& 1 = 1))))) 0 0 (fun _ => False) := by
  refine kk_start (by decide) (Nat.le_of_ble_eq_true rfl) ?_
  intro p e s m below meth c S hr hlk hin hB ls hl
  have hx := S.1
  have hb := S.2.1
  have hown : s.vm.findClass RX0 = some m.cls := S.2.2.2.1
  have hts := S.2.2.2.2
  have hl : lv_has ls 2 [(0, .int ((nI a))), (1, .int ((nI k)))] := hl
  refine lv_iload_n hx hb dX0_has_0 rfl (lv_at hl 0 rfl) ?_
  refine lv_iload_n hx hb dX0_has_1 rfl (lv_at hl 1 rfl) ?_
  refine lv_ishr hx hb dX0_has_2 ?_
  refine lv_iconst (v := 1) hx hb dX0_has_3 (by decide) ?_
  refine lv_iand hx hb dX0_has_4 ?_
  refine lv_iconst (v := 1) hx hb dX0_has_5 (by decide) ?_
  refine kb_ne_n (tgt := 13) (a := ((a / 2 ^ k) &&& 1)) (b := 1) S (nn_and (nn_shr ha hk) rfl) rfl (Nat.lt_of_le_of_lt Nat.and_le_right (by omega)) (by omega) dX0_has_6 (by decide) (fun c_6 => ?_) (fun c_6 => ?_)
  · skip
    refine lv_iconst (v := 0) hx hb dX0_has_13 (by decide) ?_
    exact kk_zfR S hr hlk rfl rfl (by omega) dX0_has_14
  · skip
    refine lv_iconst (v := 1) hx hb dX0_has_9 (by decide) ?_
    refine lv_goto (tgt := 14) hx hb dX0_has_10 (by decide) ?_
    exact kk_ztR S hr hlk rfl rfl (by omega) dX0_has_14
section CC
variable {p : Program} {l : Launch} {e : Env} {R : Room} {s : State} {m : MethodId} {args : Array Value} {below : List Frame} {meth : Method} {c : Code} {H H0 : Heap} {locs : List Loc} {cells slots : Nat} {Q : State → Prop}
variable {cc : ByteArray} {pc nL : Nat} {ls : Array Slot} {rest : List Value} {t : CT} {r : Rw} {x : Nat → Rw}
theorem cc_isSheet (S : CallFix p m c cc nL s args lw_all RX0) (hR : kRm R 2 cells slots) (hsz : ls.size = nL) {v : Int32} (hrest : (rest.map fun v => v.category).sum ≤ 8) (hdg : decode cc pc = .ok (.invokestatic 373, 3)) (kk : W p l e R s m args below meth c H locs cells slots Q (F0 m (pc + 3) ls (.int (b2i (0 ≤ v ∧ v < 4)) :: rest))) : W p l e R s m args below meth c H locs cells slots Q (F0 m pc ls (.int v :: rest)) := by
  exact kk_Ri (W.runS (As := [.int v]) (rest := rest) S (k0_isSheet l v) (va_cwS 1 S.2.2.2.2 (lw_S q945 q946 q101 q947) rfl rfl rfl (by decide +kernel) ⟨hR.1, by have := hR.2.1; show 8 + (1 + 11) + 38 * 1 ≤ R.locals; omega⟩) ⟨kk_blindT, fun U hU hW => ⟨rfl, trivial⟩⟩ rfl rfl hsz rfl (lv_room hrest) hdg ⟨hR.2.2.1, hR.2.2.2⟩) kk
theorem cc_isSpot (S : CallFix p m c cc nL s args lw_all RX0) (hR : kRm R 2 cells slots) (hsz : ls.size = nL) {v : Int32} (hrest : (rest.map fun v => v.category).sum ≤ 8) (hdg : decode cc pc = .ok (.invokestatic 358, 3)) (kk : W p l e R s m args below meth c H locs cells slots Q (F0 m (pc + 3) ls (.int (b2i (0 ≤ v ∧ v ≤ 9)) :: rest))) : W p l e R s m args below meth c H locs cells slots Q (F0 m pc ls (.int v :: rest)) := by
  exact kk_Ri (W.runS (As := [.int v]) (rest := rest) S (k0_isSpot l v) (va_cwS 1 S.2.2.2.2 (lw_S q1135 q1136 q101 q1137) rfl rfl rfl (by decide +kernel) ⟨hR.1, by have := hR.2.1; show 8 + (1 + 11) + 38 * 1 ≤ R.locals; omega⟩) ⟨kk_blindT, fun U hU hW => ⟨rfl, trivial⟩⟩ rfl rfl hsz rfl (lv_room hrest) hdg ⟨hR.2.2.1, hR.2.2.2⟩) kk
theorem cc_isKind (S : CallFix p m c cc nL s args lw_all RX0) (hR : kRm R 2 cells slots) (hsz : ls.size = nL) {v : Int32} (hrest : (rest.map fun v => v.category).sum ≤ 8) (hdg : decode cc pc = .ok (.invokestatic 13, 3)) (kk : W p l e R s m args below meth c H locs cells slots Q (F0 m (pc + 3) ls (.int (b2i (0 ≤ v ∧ v ≤ 6)) :: rest))) : W p l e R s m args below meth c H locs cells slots Q (F0 m pc ls (.int v :: rest)) := by
  exact kk_Ri (W.runS (As := [.int v]) (rest := rest) S (k0_isKind l v) (va_cwS 1 S.2.2.2.2 (lw_S q484 q485 q101 q486) rfl rfl rfl (by decide +kernel) ⟨hR.1, by have := hR.2.1; show 8 + (1 + 11) + 38 * 1 ≤ R.locals; omega⟩) ⟨kk_blindT, fun U hU hW => ⟨rfl, trivial⟩⟩ rfl rfl hsz rfl (lv_room hrest) hdg ⟨hR.2.2.1, hR.2.2.2⟩) kk
theorem cc_isCellar (S : CallFix p m c cc nL s args lw_all RX0) (hR : kRm R 2 cells slots) (hsz : ls.size = nL) {v : Int32} (hrest : (rest.map fun v => v.category).sum ≤ 8) (hdg : decode cc pc = .ok (.invokestatic 17, 3)) (kk : W p l e R s m args below meth c H locs cells slots Q (F0 m (pc + 3) ls (.int (b2i (0 ≤ v ∧ v < 6)) :: rest))) : W p l e R s m args below meth c H locs cells slots Q (F0 m pc ls (.int v :: rest)) := by
  exact kk_Ri (W.runS (As := [.int v]) (rest := rest) S (k0_isCellar l v) (va_cwS 1 S.2.2.2.2 (lw_S q450 q451 q101 q452) rfl rfl rfl (by decide +kernel) ⟨hR.1, by have := hR.2.1; show 8 + (1 + 11) + 38 * 1 ≤ R.locals; omega⟩) ⟨kk_blindT, fun U hU hW => ⟨rfl, trivial⟩⟩ rfl rfl hsz rfl (lv_room hrest) hdg ⟨hR.2.2.1, hR.2.2.2⟩) kk
theorem cc_isStorm (S : CallFix p m c cc nL s args lw_all RX0) (hR : kRm R 2 cells slots) (hsz : ls.size = nL) {v : Int32} (hrest : (rest.map fun v => v.category).sum ≤ 8) (hdg : decode cc pc = .ok (.invokestatic 171, 3)) (kk : W p l e R s m args below meth c H locs cells slots Q (F0 m (pc + 3) ls (.int (b2i (0 ≤ v ∧ v ≤ 99)) :: rest))) : W p l e R s m args below meth c H locs cells slots Q (F0 m pc ls (.int v :: rest)) := by
  exact kk_Ri (W.runS (As := [.int v]) (rest := rest) S (k0_isStorm l v) (va_cwS 1 S.2.2.2.2 (lw_S q477 q478 q101 q479) rfl rfl rfl (by decide +kernel) ⟨hR.1, by have := hR.2.1; show 8 + (1 + 11) + 38 * 1 ≤ R.locals; omega⟩) ⟨kk_blindT, fun U hU hW => ⟨rfl, trivial⟩⟩ rfl rfl hsz rfl (lv_room hrest) hdg ⟨hR.2.2.1, hR.2.2.2⟩) kk
theorem cc_isBlend (S : CallFix p m c cc nL s args lw_all RX0) (hR : kRm R 2 cells slots) (hsz : ls.size = nL) {v : Int32} (hrest : (rest.map fun v => v.category).sum ≤ 8) (hdg : decode cc pc = .ok (.invokestatic 281, 3)) (kk : W p l e R s m args below meth c H locs cells slots Q (F0 m (pc + 3) ls (.int (b2i (0 ≤ v ∧ v ≤ 9999)) :: rest))) : W p l e R s m args below meth c H locs cells slots Q (F0 m pc ls (.int v :: rest)) := by
  exact kk_Ri (W.runS (As := [.int v]) (rest := rest) S (k0_isBlend l v) (va_cwS 1 S.2.2.2.2 (lw_S q918 q919 q101 q920) rfl rfl rfl (by decide +kernel) ⟨hR.1, by have := hR.2.1; show 8 + (1 + 11) + 38 * 1 ≤ R.locals; omega⟩) ⟨kk_blindT, fun U hU hW => ⟨rfl, trivial⟩⟩ rfl rfl hsz rfl (lv_room hrest) hdg ⟨hR.2.2.1, hR.2.2.2⟩) kk
theorem cc_has (S : CallFix p m c cc nL s args lw_all RX0) (hR : kRm R 1 cells slots) (hsz : ls.size = nL) (a : Nat) (k : Nat) (ha : a < 2 ^ 31) (hk : k < 31) {i0 : Int32} (e0 : i0 = nI a) {i1 : Int32} (e1 : i1 = nI k) (hrest : (rest.map fun v => v.category).sum ≤ 8) (hdg : decode cc pc = .ok (.invokestatic 206, 3)) (kk : W p l e R s m args below meth c H locs cells slots Q (F0 m (pc + 3) ls (.int (b2i ((a / 2 ^ k) &&& 1 = 1)) :: rest))) : W p l e R s m args below meth c H locs cells slots Q (F0 m pc ls (.int i1 :: .int i0 :: rest)) := by
  subst e0
  subst e1
  exact kk_Ri (W.runS (As := [.int (nI a), .int (nI k)]) (rest := rest) S (k0_has l a k ha hk) (va_cwS 2 S.2.2.2.2 (lw_S q787 q788 q101 q789) rfl rfl rfl (by decide +kernel) ⟨hR.1, by have := hR.2.1; show 8 + (2 + 11) + 38 * 0 ≤ R.locals; omega⟩) ⟨kk_blindT, fun U hU hW => ⟨rfl, trivial⟩⟩ rfl rfl hsz rfl (lv_room hrest) hdg ⟨hR.2.2.1, hR.2.2.2⟩) kk
end CC
set_option maxHeartbeats 4000000 in
set_option maxRecDepth 100000 in
theorem k0_isTold (l : Launch) (w : Int32) (v : Int32) : Met l yX0_isTold (ws_ yX0_isTold cX0_isTold 2 (some .boolean)) (rmF 2) (va_Pc [.int w, .int v] (fun _ => True)) (kR (some (.int (b2i ((0 ≤ w ∧ w ≤ 6) ∧ 0 ≤ v ∧ v ≤ p_great w))))) 0 0 (fun _ => False) := by
  refine kk_start (by decide) (Nat.le_of_ble_eq_true rfl) ?_
  intro p e s m below meth c S hr hlk hin hB ls hl
  have hx := S.1
  have hb := S.2.1
  have hown : s.vm.findClass RX0 = some m.cls := S.2.2.2.1
  have hts := S.2.2.2.2
  have hl : lv_has ls 2 [(0, .int (w)), (1, .int (v))] := hl
  refine lv_iload_n hx hb dX0_isTold_0 rfl (lv_at hl 0 rfl) ?_
  by_cases c_1 : 0 ≤ w ∧ w < 7
  · skip
    obtain ⟨k, hk, rfl⟩ := nat_of_lt (n := 7) rfl (by omega) c_1
    have hcl_k := nI_clamp (n := k) (by omega)
    rcases (show k = 0 ∨ k = 1 ∨ k = 2 ∨ k = 3 ∨ k = 4 ∨ k = 5 ∨ k = 6 by omega) with k_1 | k_1 | k_1 | k_1 | k_1 | k_1 | k_1
    · skip
      refine kb_tabIn (tgt := 44) S ((rfl).trans (congrArg nI k_1)) (by decide) dX0_isTold_1 (by decide) (by decide) rfl (by decide) ?_
      subst k_1
      refine lv_iload_n hx hb dX0_isTold_44 rfl (lv_at hl 1 rfl) ?_
      refine cc_isKind S (rm_ok (Nat.le_of_ble_eq_true rfl)) hl.1 (Nat.le_of_ble_eq_true rfl) dX0_isTold_45 ?_
      exact kk_zretR (ty := .boolean) S hr hlk rfl rfl (by rw [show p_great (nI 0) = 6 by decide]; have h0 : (0 : Int32) ≤ nI 0 ∧ nI 0 ≤ 6 := (by decide); grind) dX0_isTold_48
    · skip
      refine kb_tabIn (tgt := 49) S ((rfl).trans (congrArg nI k_1)) (by decide) dX0_isTold_1 (by decide) (by decide) rfl (by decide) ?_
      subst k_1
      refine lv_iload_n hx hb dX0_isTold_49 rfl (lv_at hl 1 rfl) ?_
      refine cc_isCellar S (rm_ok (Nat.le_of_ble_eq_true rfl)) hl.1 (Nat.le_of_ble_eq_true rfl) dX0_isTold_50 ?_
      exact kk_zretR (ty := .boolean) S hr hlk rfl rfl (by rw [show p_great (nI 1) = 5 by decide]; have h0 : (0 : Int32) ≤ nI 1 ∧ nI 1 ≤ 6 := (by decide); grind) dX0_isTold_53
    · skip
      refine kb_tabIn (tgt := 54) S ((rfl).trans (congrArg nI k_1)) (by decide) dX0_isTold_1 (by decide) (by decide) rfl (by decide) ?_
      subst k_1
      refine lv_iload_n hx hb dX0_isTold_54 rfl (lv_at hl 1 rfl) ?_
      refine lv_iconst (v := 0) hx hb dX0_isTold_55 (by decide) ?_
      refine lv_sipush (v := 999) hx hb dX0_isTold_56 (by decide) ?_
      refine cc_in S (rm_ok (Nat.le_of_ble_eq_true rfl)) hl.1 (Nat.le_of_ble_eq_true rfl) dX0_isTold_59 ?_
      exact kk_zretR (ty := .boolean) S hr hlk rfl rfl (by rw [show p_great (nI 2) = 999 by decide]; have h0 : (0 : Int32) ≤ nI 2 ∧ nI 2 ≤ 6 := (by decide); grind) dX0_isTold_62
    · skip
      refine kb_tabIn (tgt := 63) S ((rfl).trans (congrArg nI k_1)) (by decide) dX0_isTold_1 (by decide) (by decide) rfl (by decide) ?_
      subst k_1
      refine lv_iload_n hx hb dX0_isTold_63 rfl (lv_at hl 1 rfl) ?_
      refine lv_iconst (v := 0) hx hb dX0_isTold_64 (by decide) ?_
      refine lv_bipush (v := 11) hx hb dX0_isTold_65 (by decide) ?_
      refine cc_in S (rm_ok (Nat.le_of_ble_eq_true rfl)) hl.1 (Nat.le_of_ble_eq_true rfl) dX0_isTold_67 ?_
      exact kk_zretR (ty := .boolean) S hr hlk rfl rfl (by rw [show p_great (nI 3) = 11 by decide]; have h0 : (0 : Int32) ≤ nI 3 ∧ nI 3 ≤ 6 := (by decide); grind) dX0_isTold_70
    · skip
      refine kb_tabIn (tgt := 71) S ((rfl).trans (congrArg nI k_1)) (by decide) dX0_isTold_1 (by decide) (by decide) rfl (by decide) ?_
      subst k_1
      refine lv_iload_n hx hb dX0_isTold_71 rfl (lv_at hl 1 rfl) ?_
      refine lv_iconst (v := 0) hx hb dX0_isTold_72 (by decide) ?_
      refine lv_sipush (v := 999) hx hb dX0_isTold_73 (by decide) ?_
      refine cc_in S (rm_ok (Nat.le_of_ble_eq_true rfl)) hl.1 (Nat.le_of_ble_eq_true rfl) dX0_isTold_76 ?_
      exact kk_zretR (ty := .boolean) S hr hlk rfl rfl (by rw [show p_great (nI 4) = 999 by decide]; have h0 : (0 : Int32) ≤ nI 4 ∧ nI 4 ≤ 6 := (by decide); grind) dX0_isTold_79
    · skip
      refine kb_tabIn (tgt := 80) S ((rfl).trans (congrArg nI k_1)) (by decide) dX0_isTold_1 (by decide) (by decide) rfl (by decide) ?_
      subst k_1
      refine lv_iload_n hx hb dX0_isTold_80 rfl (lv_at hl 1 rfl) ?_
      refine lv_iconst (v := 0) hx hb dX0_isTold_81 (by decide) ?_
      refine lv_sipush (v := 999) hx hb dX0_isTold_82 (by decide) ?_
      refine cc_in S (rm_ok (Nat.le_of_ble_eq_true rfl)) hl.1 (Nat.le_of_ble_eq_true rfl) dX0_isTold_85 ?_
      exact kk_zretR (ty := .boolean) S hr hlk rfl rfl (by rw [show p_great (nI 5) = 999 by decide]; have h0 : (0 : Int32) ≤ nI 5 ∧ nI 5 ≤ 6 := (by decide); grind) dX0_isTold_88
    · skip
      refine kb_tabIn (tgt := 89) S ((rfl).trans (congrArg nI k_1)) (by decide) dX0_isTold_1 (by decide) (by decide) rfl (by decide) ?_
      subst k_1
      refine lv_iload_n hx hb dX0_isTold_89 rfl (lv_at hl 1 rfl) ?_
      refine lv_iconst (v := 0) hx hb dX0_isTold_90 (by decide) ?_
      refine lv_sipush (v := 999) hx hb dX0_isTold_91 (by decide) ?_
      refine cc_in S (rm_ok (Nat.le_of_ble_eq_true rfl)) hl.1 (Nat.le_of_ble_eq_true rfl) dX0_isTold_94 ?_
      exact kk_zretR (ty := .boolean) S hr hlk rfl rfl (by rw [show p_great (nI 6) = 999 by decide]; have h0 : (0 : Int32) ≤ nI 6 ∧ nI 6 ≤ 6 := (by decide); grind) dX0_isTold_97
  · skip
    refine kb_tabRaw (n := 7) (tgt := 98) S rfl (by decide) c_1 (by decide) dX0_isTold_1 (by decide) ?_
    refine lv_iconst (v := 0) hx hb dX0_isTold_98 (by decide) ?_
    exact kk_zfR S hr hlk rfl rfl (by intro h; grind) dX0_isTold_99
section CC
variable {p : Program} {l : Launch} {e : Env} {R : Room} {s : State} {m : MethodId} {args : Array Value} {below : List Frame} {meth : Method} {c : Code} {H H0 : Heap} {locs : List Loc} {cells slots : Nat} {Q : State → Prop}
variable {cc : ByteArray} {pc nL : Nat} {ls : Array Slot} {rest : List Value} {t : CT} {r : Rw} {x : Nat → Rw}
theorem cc_isTold (S : CallFix p m c cc nL s args lw_all RX0) (hR : kRm R 3 cells slots) (hsz : ls.size = nL) {w : Int32} {v : Int32} (hrest : (rest.map fun v => v.category).sum ≤ 8) (hdg : decode cc pc = .ok (.invokestatic 185, 3)) (kk : W p l e R s m args below meth c H locs cells slots Q (F0 m (pc + 3) ls (.int (b2i ((0 ≤ w ∧ w ≤ 6) ∧ 0 ≤ v ∧ v ≤ p_great w)) :: rest))) : W p l e R s m args below meth c H locs cells slots Q (F0 m pc ls (.int v :: .int w :: rest)) := by
  exact kk_Ri (W.runS (As := [.int w, .int v]) (rest := rest) S (k0_isTold l w v) (va_cwS 2 S.2.2.2.2 (lw_S q644 q645 q101 q646) rfl rfl rfl (by decide +kernel) ⟨hR.1, by have := hR.2.1; show 8 + (2 + 11) + 38 * 2 ≤ R.locals; omega⟩) ⟨kk_blindT, fun U hU hW => ⟨rfl, trivial⟩⟩ rfl rfl hsz rfl (lv_room hrest) hdg ⟨hR.2.2.1, hR.2.2.2⟩) kk
end CC
section CC
variable {p : Program} {l : Launch} {e : Env} {R : Room} {s : State} {m : MethodId} {args : Array Value} {below : List Frame} {meth : Method} {c : Code} {H H0 : Heap} {locs : List Loc} {cells slots : Nat} {Q : State → Prop}
variable {cc : ByteArray} {pc nL : Nat} {ls : Array Slot} {rest : List Value} {t : CT} {r : Rw} {x : Nat → Rw}
theorem d0_whatIsIn (S : CallFix p m c cc nL s args lw_all RX0) (hK : cK t s) (hP : cX t r x H) (hR : kRm R 1 cells slots) (hsz : ls.size = nL) {v : Int32} (b : Nat) (hV : pV b r) (hrest : (rest.map fun v => v.category).sum ≤ 8) (hdg : decode cc pc = .ok (.invokevirtual 165, 3)) (kk : W p l e R s m args below meth c H locs cells slots Q (F0 m (pc + 3) ls (.int (nI (p_there r v)) :: rest))) : W p l e R s m args below meth c H locs cells slots Q (F0 m pc ls (.int v :: .ref (t.2.1 100) :: rest)) :=
  c0_whatIsIn (t := wT t 100) S (hK.w (b := 1) (by decide) rfl) hP.w1 hR hsz b hV hrest hdg kk
theorem d10_whatIsIn (S : CallFix p m c cc nL s args lw_all RX10) (hK : cK t s) (hP : cX t r x H) (hR : kRm R 1 cells slots) (hsz : ls.size = nL) {v : Int32} (b : Nat) (hV : pV b r) (hrest : (rest.map fun v => v.category).sum ≤ 8) (hdg : decode cc pc = .ok (.invokevirtual 30, 3)) (kk : W p l e R s m args below meth c H locs cells slots Q (F0 m (pc + 3) ls (.int (nI (p_there r v)) :: rest))) : W p l e R s m args below meth c H locs cells slots Q (F0 m pc ls (.int v :: .ref (t.2.1 100) :: rest)) :=
  c10_whatIsIn (t := wT t 100) S (hK.w (b := 1) (by decide) rfl) hP.w1 hR hsz b hV hrest hdg kk
theorem d0_emptiest (S : CallFix p m c cc nL s args lw_all RX0) (hK : cK t s) (hP : cX t r x H) (hR : kRm R 1 cells slots) (hsz : ls.size = nL) {v : Int32} (b : Nat) (hV : pV b r) (hrest : (rest.map fun v => v.category).sum ≤ 8) (hdg : decode cc pc = .ok (.invokevirtual 168, 3)) (kk : W p l e R s m args below meth c H locs cells slots Q (F0 m (pc + 3) ls (.int (oi (p_emp r v)) :: rest))) : W p l e R s m args below meth c H locs cells slots Q (F0 m pc ls (.int v :: .ref (t.2.1 100) :: rest)) :=
  c0_emptiest (t := wT t 100) S (hK.w (b := 1) (by decide) rfl) hP.w1 hR hsz b hV hrest hdg kk
theorem d0_leaks (S : CallFix p m c cc nL s args lw_all RX0) (hK : cK t s) (hP : cX t r x H) (hS : va_S (cA t) H0 H locs) (hR : kRm R 2 cells slots) (hsz : ls.size = nL) (k : Nat) {v : Int32} (hk : k < 8) {i0 : Int32} (e0 : i0 = nI k) (hrest : (rest.map fun v => v.category).sum ≤ 8) (hdg : decode cc pc = .ok (.invokevirtual 140, 3)) (kk : ∀ (H1 : Heap) (locs1 : List Loc), cX t (p_ag (upd r (16 + 7 * k + 2) (imax 0 (r (16 + 7 * k + 2) - v))) k) x H1 → va_S (cA t) H0 H1 locs1 → W p l e R s m args below meth c H1 locs1 cells slots Q (F0 m (pc + 3) ls (rest))) : W p l e R s m args below meth c H locs cells slots Q (F0 m pc ls (.int v :: .int i0 :: .ref (t.2.1 100) :: rest)) :=
  c0_leaks (t := wT t 100) S (hK.w (b := 1) (by decide) rfl) hP.w1 hS (cA.w (b := 1) (by decide) rfl) hR hsz k hk e0 hrest hdg (fun H1 l1 hw _ oq hS => kk H1 l1 (hP.up1 hK hw oq) hS)
theorem d0_empties (S : CallFix p m c cc nL s args lw_all RX0) (hK : cK t s) (hP : cX t r x H) (hS : va_S (cA t) H0 H locs) (hR : kRm R 1 cells slots) (hsz : ls.size = nL) (k : Nat) (hk : k < 8) {i0 : Int32} (e0 : i0 = nI k) (hrest : (rest.map fun v => v.category).sum ≤ 8) (hdg : decode cc pc = .ok (.invokevirtual 192, 3)) (kk : ∀ (H1 : Heap) (locs1 : List Loc), cX t (p_clear r k) x H1 → va_S (cA t) H0 H1 locs1 → W p l e R s m args below meth c H1 locs1 cells slots Q (F0 m (pc + 3) ls (rest))) : W p l e R s m args below meth c H locs cells slots Q (F0 m pc ls (.int i0 :: .ref (t.2.1 100) :: rest)) :=
  c0_empties (t := wT t 100) S (hK.w (b := 1) (by decide) rfl) hP.w1 hS (cA.w (b := 1) (by decide) rfl) hR hsz k hk e0 hrest hdg (fun H1 l1 hw _ oq hS => kk H1 l1 (hP.up1 hK hw oq) hS)
theorem d0_all (S : CallFix p m c cc nL s args lw_all RX0) (hK : cK t s) (hP : cX t r x H) (hR : kRm R 1 cells slots) (hsz : ls.size = nL) (b : Nat) (hV : pV b r) (hrest : (rest.map fun v => v.category).sum ≤ 8) (hdg : decode cc pc = .ok (.invokevirtual 212, 3)) (kk : W p l e R s m args below meth c H locs cells slots Q (F0 m (pc + 3) ls (.int (nI (2 ^ pN r - 1)) :: rest))) : W p l e R s m args below meth c H locs cells slots Q (F0 m pc ls (.ref (t.2.1 100) :: rest)) :=
  c0_all (t := wT t 100) S (hK.w (b := 1) (by decide) rfl) hP.w1 hR hsz b hV hrest hdg kk
theorem d0_cellars (S : CallFix p m c cc nL s args lw_all RX0) (hK : cK t s) (hP : cX t r x H) (hR : kRm R 1 cells slots) (hsz : ls.size = nL) (b : Nat) (hV : pV b r) (hrest : (rest.map fun v => v.category).sum ≤ 8) (hdg : decode cc pc = .ok (.invokevirtual 224, 3)) (kk : W p l e R s m args below meth c H locs cells slots Q (F0 m (pc + 3) ls (.int (nI (p_used r)) :: rest))) : W p l e R s m args below meth c H locs cells slots Q (F0 m pc ls (.ref (t.2.1 100) :: rest)) :=
  c0_cellars (t := wT t 100) S (hK.w (b := 1) (by decide) rfl) hP.w1 hR hsz b hV hrest hdg kk
theorem d0_sumOf (S : CallFix p m c cc nL s args lw_all RX0) (hK : cK t s) (hP : cX t r x H) (hR : kRm R 1 cells slots) (hsz : ls.size = nL) (w : Nat) (b : Nat) (hV : pV b r) (hw : w < 7) {i0 : Int32} (e0 : i0 = nI w) (hrest : (rest.map fun v => v.category).sum ≤ 8) (hdg : decode cc pc = .ok (.invokevirtual 209, 3)) (kk : W p l e R s m args below meth c H locs cells slots Q (F0 m (pc + 3) ls (.int (p_sum r w) :: rest))) : W p l e R s m args below meth c H locs cells slots Q (F0 m pc ls (.int i0 :: .ref (t.2.1 100) :: rest)) :=
  c0_sumOf (t := wT t 100) S (hK.w (b := 1) (by decide) rfl) hP.w1 hR hsz w b hV hw e0 hrest hdg kk
theorem d0_isLate (S : CallFix p m c cc nL s args lw_all RX0) (hK : cK t s) (hP : cX t r x H) (hR : kRm R 1 cells slots) (hsz : ls.size = nL) (n : Nat) (b : Nat) (hV : pV b r) (hb : b ≤ 99999) (hn1 : n ≤ 60) {i0 : Int32} (e0 : i0 = nI n) (hrest : (rest.map fun v => v.category).sum ≤ 8) (hdg : decode cc pc = .ok (.invokevirtual 200, 3)) (kk : W p l e R s m args below meth c H locs cells slots Q (F0 m (pc + 3) ls (.int (b2i (99999 < pD r + n)) :: rest))) : W p l e R s m args below meth c H locs cells slots Q (F0 m pc ls (.int i0 :: .ref (t.2.1 100) :: rest)) :=
  c0_isLate (t := wT t 100) S (hK.w (b := 1) (by decide) rfl) hP.w1 hR hsz n b hV hb hn1 e0 hrest hdg kk
theorem d0_draw (S : CallFix p m c cc nL s args lw_all RX0) (hK : cK t s) (hP : cX t r x H) (hS : va_S (cA t) H0 H locs) (hR : kRm R 1 cells slots) (hsz : ls.size = nL) (hrest : (rest.map fun v => v.category).sum ≤ 8) (hdg : decode cc pc = .ok (.invokevirtual 323, 3)) (kk : ∀ (H1 : Heap) (locs1 : List Loc), cX t (p_draw r) x H1 → va_S (cA t) H0 H1 locs1 → W p l e R s m args below meth c H1 locs1 cells slots Q (F0 m (pc + 3) ls (.int (nI (p_dN r)) :: rest))) : W p l e R s m args below meth c H locs cells slots Q (F0 m pc ls (.ref (t.2.1 100) :: rest)) :=
  c0_draw (t := wT t 100) S (hK.w (b := 1) (by decide) rfl) hP.w1 hS (cA.w (b := 1) (by decide) rfl) hR hsz hrest hdg (fun H1 l1 hw _ oq hS => kk H1 l1 (hP.up1 hK hw oq) hS)
theorem d0_add (S : CallFix p m c cc nL s args lw_all RX0) (hK : cK t s) (hP : cX t r x H) (hS : va_S (cA t) H0 H locs) (hR : kRm R 1 cells slots) (hsz : ls.size = nL) {i : Int32} {v : Int32} (b : Nat) (hV : pV b r) (h8 : pN r < 8) (hrest : (rest.map fun v => v.category).sum ≤ 8) (hdg : decode cc pc = .ok (.invokevirtual 174, 3)) (kk : ∀ (H1 : Heap) (locs1 : List Loc), cX t (p_comes r i v) x H1 → va_S (cA t) H0 H1 locs1 → W p l e R s m args below meth c H1 locs1 cells slots Q (F0 m (pc + 3) ls (rest))) : W p l e R s m args below meth c H locs cells slots Q (F0 m pc ls (.int v :: .int i :: .ref (t.2.1 100) :: rest)) :=
  c0_add (t := wT t 100) S (hK.w (b := 1) (by decide) rfl) hP.w1 hS (cA.w (b := 1) (by decide) rfl) hR hsz b hV h8 hrest hdg (fun H1 l1 hw _ oq hS => kk H1 l1 (hP.up1 hK hw oq) hS)
theorem d2_add (S : CallFix p m c cc nL s args lw_all RX2) (hK : cK t s) (hP : cX t r x H) (hS : va_S (cA t) H0 H locs) (hR : kRm R 1 cells slots) (hsz : ls.size = nL) {i : Int32} {v : Int32} (b : Nat) (hV : pV b (x 2)) (h8 : pN (x 2) < 8) (hrest : (rest.map fun v => v.category).sum ≤ 8) (hdg : decode cc pc = .ok (.invokevirtual 102, 3)) (kk : ∀ (H1 : Heap) (locs1 : List Loc), cX t r (va_up x 2 (p_comes (x 2) i v)) H1 → va_S (cA t) H0 H1 locs1 → W p l e R s m args below meth c H1 locs1 cells slots Q (F0 m (pc + 3) ls (rest))) : W p l e R s m args below meth c H locs cells slots Q (F0 m pc ls (.int v :: .int i :: .ref (t.2.1 400) :: rest)) :=
  c2_add (t := wT t 400) S (hK.w (b := 4) (by decide) rfl) hP.w4 hS (cA.w (b := 4) (by decide) rfl) hR hsz b hV h8 hrest hdg (fun H1 l1 hw _ oq hS => kk H1 l1 (hP.up4 hK hw oq) hS)
theorem d0_storms (S : CallFix p m c cc nL s args lw_all RX0) (hK : cK t s) (hP : cX t r x H) (hS : va_S (cA t) H0 H locs) (hR : kRm R 3 cells slots) (hsz : ls.size = nL) (b : Nat) (hV : pV b r) (hb : b < 2 ^ 30) (hrest : (rest.map fun v => v.category).sum ≤ 8) (hdg : decode cc pc = .ok (.invokevirtual 134, 3)) (kk : ∀ (H1 : Heap) (locs1 : List Loc), cX t (p_s0 r) x H1 → va_S (cA t) H0 H1 locs1 → W p l e R s m args below meth c H1 locs1 cells slots Q (F0 m (pc + 3) ls (rest))) : W p l e R s m args below meth c H locs cells slots Q (F0 m pc ls (.ref (t.2.1 100) :: rest)) :=
  c0_storms (t := wT t 100) S (hK.w (b := 1) (by decide) rfl) hP.w1 hS (cA.w (b := 1) (by decide) rfl) hR hsz b hV hb hrest hdg (fun H1 l1 hw _ oq hS => kk H1 l1 (hP.up1 hK hw oq) hS)
theorem d0_cancel (S : CallFix p m c cc nL s args lw_all RX0) (hK : cK t s) (hP : cX t r x H) (hS : va_S (cA t) H0 H locs) (hR : kRm R 2 cells slots) (hsz : ls.size = nL) (b : Nat) (hV : pV b r) (hrest : (rest.map fun v => v.category).sum ≤ 8) (hdg : decode cc pc = .ok (.invokevirtual 143, 3)) (kk : ∀ (H1 : Heap) (locs1 : List Loc), cX t (p_cans (pN r) r) x H1 → va_S (cA t) H0 H1 locs1 → W p l e R s m args below meth c H1 locs1 cells slots Q (F0 m (pc + 3) ls (rest))) : W p l e R s m args below meth c H locs cells slots Q (F0 m pc ls (.ref (t.2.1 100) :: rest)) :=
  c0_cancel (t := wT t 100) S (hK.w (b := 1) (by decide) rfl) hP.w1 hS (cA.w (b := 1) (by decide) rfl) hR hsz b hV hrest hdg (fun H1 l1 hw _ oq hS => kk H1 l1 (hP.up1 hK hw oq) hS)
theorem d0_bursts (S : CallFix p m c cc nL s args lw_all RX0) (hK : cK t s) (hP : cX t r x H) (hS : va_S (cA t) H0 H locs) (hR : kRm R 3 cells slots) (hsz : ls.size = nL) (k : Nat) (b : Nat) (hk : k < 8) (hV : pV b r) {i0 : Int32} (e0 : i0 = nI k) (hrest : (rest.map fun v => v.category).sum ≤ 8) (hdg : decode cc pc = .ok (.invokevirtual 149, 3)) (kk : ∀ (H1 : Heap) (locs1 : List Loc), cX t (p_burst r k) x H1 → va_S (cA t) H0 H1 locs1 → W p l e R s m args below meth c H1 locs1 cells slots Q (F0 m (pc + 3) ls (rest))) : W p l e R s m args below meth c H locs cells slots Q (F0 m pc ls (.int i0 :: .ref (t.2.1 100) :: rest)) :=
  c0_bursts (t := wT t 100) S (hK.w (b := 1) (by decide) rfl) hP.w1 hS (cA.w (b := 1) (by decide) rfl) hR hsz k b hk hV e0 hrest hdg (fun H1 l1 hw _ oq hS => kk H1 l1 (hP.up1 hK hw oq) hS)
end CC

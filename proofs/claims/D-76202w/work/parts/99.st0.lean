/-! STRINGS: the literal of keys and what the JDK's charAt says of it. κ: its address, its bytes' address, the size of the heap when the law began -/
def keyL : List Int32 := [99, 97, 115, 107, 32, 32, 99, 114, 97, 99, 107, 32, 114, 111, 108, 108, 32, 32, 109, 101, 108, 108, 111, 119, 101, 99, 104, 111, 32, 32, 104, 101, 97, 116, 32, 32, 102, 111, 114, 103, 101, 100, 115, 116, 111, 114, 109, 32, 102, 114, 111, 115, 116, 32, 105, 110, 32, 32, 32, 32, 112, 101, 97, 108, 32, 32, 112, 105, 116, 99, 104, 32, 104, 111, 111, 112, 115, 32]
def keyC (j : Nat) : Int32 := keyL.getD j 0
def kS (κ : Nat × Nat × Nat) (U : State) (H : Heap) : Prop := vk_R "ThunderCasks$Reader" 74 "cask  crack roll  mellowecho  heat  forgedstorm frost in    peal  pitch hoops " κ.1 U ∧ va_O "java/lang/String" κ.1 (fun q => κ.2.2 ≤ q) U H ∧ va_OF "java/lang/String" "coder" "B" (.int 0) κ.1 (fun q => κ.2.2 ≤ q) U H ∧ va_OF "java/lang/String" "value" "[B" (.ref κ.2.1) κ.1 (fun q => κ.2.2 ≤ q) U H ∧ va_T .byte κ.2.1 78 (fun j => .int (keyC j)) (fun q => κ.2.2 ≤ q) U H ∧ va_Z "java/lang/String" "COMPACT_STRINGS" "Z" (.int 1) (fun q => κ.2.2 ≤ q) U H ∧ va_Zq "jdk/internal/util/Preconditions" "SIOOBE_FORMATTER" "Ljava/util/function/BiFunction;" (fun q => κ.2.2 ≤ q) U H
theorem kS.warm {κ : Nat × Nat × Nat} {s U : State} {H : Heap} (hW : s.WarmedH U.vm) (h : kS κ s H) : kS κ U H := ⟨h.1.warm hW, va_O.moved hW.alike h.2.1, va_OF.moved hW.alike h.2.2.1, va_OF.moved hW.alike h.2.2.2.1, va_T.moved hW.alike h.2.2.2.2.1, va_Z.moved hW.alike h.2.2.2.2.2.1, va_Zq.moved hW.alike h.2.2.2.2.2.2⟩
theorem kS.same {κ : Nat × Nat × Nat} {u U : State} {H : Heap} (hvm : u.vm = U.vm) (h : kS κ u H) : kS κ U H := h.warm (by rw [← hvm]; exact State.WarmedH.refl u)
theorem kS.kept {κ : Nat × Nat × Nat} {U : State} {H H1 : Heap} (h : kS κ U H) (hq : ∀ a : Nat, a < H.size → ¬ κ.2.2 ≤ a → H1[a]? = H[a]?) : kS κ U H1 := ⟨h.1, h.2.1.kept hq, h.2.2.1.kept hq, h.2.2.2.1.kept hq, h.2.2.2.2.1.kept hq, h.2.2.2.2.2.1.kept hq, h.2.2.2.2.2.2.kept hq⟩
theorem kS.keep {κ : Nat × Nat × Nat} {t : CT} {U : State} {H H1 : Heap} {locs : List Loc} (h : kS κ U H) (hA : ∀ q, cA t q → κ.2.2 ≤ q) (hS : va_S (cA t) H H1 locs) : kS κ U H1 := h.kept (fun a h1 h2 => hS.2.1 a h1 (fun z => h2 (hA a z)))
theorem kS.pre {κ : Nat × Nat × Nat} {s : State} {H : Heap} {As : List Value} (h : kS κ s H) : ∀ U : State, U.heap = H → s.WarmedH U.vm → va_Pc As (fun U => kS κ U U.heap) As.toArray U := fun U hU hW => ⟨rfl, by show kS κ U U.heap; rw [hU]; exact h.warm hW⟩
theorem kS_blind {av : List Value} {κ : Nat × Nat × Nat} : FrameBlind (va_Pc av (fun U => kS κ U U.heap)) := fun a U g mk h => ⟨h.1, kS.same (U := U.calling g mk a) rfl h.2⟩
theorem keyC_c : ∀ j, j < 78 → ((keyC j &&& 255).toUInt32 % 65536).toInt32 = keyC j ∧ (narrow .char (.int (keyC j)) = .int (keyC j)) := by decide +kernel
set_option maxHeartbeats 4000000 in
theorem kJ5_isLatin1 (l : Launch) (κ : Nat × Nat × Nat) : Met l yJ5_isLatin1 (ws_ yJ5_isLatin1 cJ5_isLatin1 1 (some .boolean)) (rmF 0) (va_Pc [.ref κ.1] (fun U => kS κ U U.heap)) (kR (some (.int (b2i True)))) 0 0 (fun _ => False) := by
  refine kk_start (by decide) (Nat.le_of_ble_eq_true rfl) ?_
  intro p e s m below meth c S hr hlk hin hB ls hl
  have hx := S.1
  have hb := S.2.1
  have hown := S.2.2.2.1
  have hts := S.2.2.2.2
  have hl : lv_has ls 1 [(0, .ref κ.1)] := hl
  refine va_gets hx hb hB.2.2.2.2.2.1 va_S.rf hown (hts _ q1055) (fun _ h => h) dJ5_isLatin1_0 ?_
  refine lv_if_eq (tgt := 17) hx hb dJ5_isLatin1_3 (by decide) (fun c_3 => absurd c_3 (by decide)) (fun c_3 => ?_)
  refine lv_aload_n hx hb dJ5_isLatin1_6 rfl (lv_at hl 0 rfl) ?_
  refine vk_getf hx hb hB.2.2.1 va_S.rf hown (hts _ q1734) (fun _ h => h) dJ5_isLatin1_7 ?_
  refine lv_if_ne (tgt := 17) hx hb dJ5_isLatin1_10 (by decide) (fun c_10 => absurd rfl c_10) (fun c_10 => ?_)
  refine lv_iconst (v := 1) hx hb dJ5_isLatin1_13 (by decide) ?_
  refine lv_goto (tgt := 18) hx hb dJ5_isLatin1_14 (by decide) ?_
  exact kk_ztR S hr hlk rfl rfl trivial dJ5_isLatin1_18
set_option maxHeartbeats 4000000 in
theorem kJ7_checkIndexN (l : Launch) (i n : Nat) (hi : i < n) (hn : n < 2 ^ 31) : Met l yJ7_checkIndex (ws_ yJ7_checkIndex cJ7_checkIndex 3 (some .int)) (rmF 0) (va_Pc [.int (nI i), .int (nI n), .null] (fun _ => True)) (kR (some (.int (nI i)))) 0 0 (fun _ => False) := by
  refine kk_start (by decide) (Nat.le_of_ble_eq_true rfl) ?_
  intro p e s m below meth c S hr hlk hin hB ls hl
  have hx := S.1
  have hb := S.2.1
  have hown := S.2.2.2.1
  have hts := S.2.2.2.2
  have hl : lv_has ls 3 [(0, .int (nI i)), (1, .int (nI n)), (2, .null)] := hl
  refine lv_iload_n hx hb dJ7_checkIndex_0 rfl (lv_at hl 0 rfl) ?_
  refine kb_lt0_n (tgt := 9) (a := i) S rfl (by omega) dJ7_checkIndex_1 (by decide) (fun c_1 => c_1.elim) (fun c_1 => ?_)
  refine lv_iload_n hx hb dJ7_checkIndex_4 rfl (lv_at hl 0 rfl) ?_
  refine lv_iload_n hx hb dJ7_checkIndex_5 rfl (lv_at hl 1 rfl) ?_
  refine kb_lt_n (tgt := 16) (a := i) (b := n) S rfl rfl (by omega) (by omega) dJ7_checkIndex_6 (by decide) (fun c_6 => ?_) (fun c_6 => absurd c_6 (by omega))
  refine lv_iload_n hx hb dJ7_checkIndex_16 rfl (lv_at hl 0 rfl) ?_
  exact kk_iretR S hr hlk rfl rfl rfl dJ7_checkIndex_17
set_option maxHeartbeats 4000000 in
theorem kJ7_checkIndexR (l : Launch) (i n : Nat) (a : Nat) (hi : i < n) (hn : n < 2 ^ 31) : Met l yJ7_checkIndex (ws_ yJ7_checkIndex cJ7_checkIndex 3 (some .int)) (rmF 0) (va_Pc [.int (nI i), .int (nI n), .ref a] (fun _ => True)) (kR (some (.int (nI i)))) 0 0 (fun _ => False) := by
  refine kk_start (by decide) (Nat.le_of_ble_eq_true rfl) ?_
  intro p e s m below meth c S hr hlk hin hB ls hl
  have hx := S.1
  have hb := S.2.1
  have hown := S.2.2.2.1
  have hts := S.2.2.2.2
  have hl : lv_has ls 3 [(0, .int (nI i)), (1, .int (nI n)), (2, .ref a)] := hl
  refine lv_iload_n hx hb dJ7_checkIndex_0 rfl (lv_at hl 0 rfl) ?_
  refine kb_lt0_n (tgt := 9) (a := i) S rfl (by omega) dJ7_checkIndex_1 (by decide) (fun c_1 => c_1.elim) (fun c_1 => ?_)
  refine lv_iload_n hx hb dJ7_checkIndex_4 rfl (lv_at hl 0 rfl) ?_
  refine lv_iload_n hx hb dJ7_checkIndex_5 rfl (lv_at hl 1 rfl) ?_
  refine kb_lt_n (tgt := 16) (a := i) (b := n) S rfl rfl (by omega) (by omega) dJ7_checkIndex_6 (by decide) (fun c_6 => ?_) (fun c_6 => absurd c_6 (by omega))
  refine lv_iload_n hx hb dJ7_checkIndex_16 rfl (lv_at hl 0 rfl) ?_
  exact kk_iretR S hr hlk rfl rfl rfl dJ7_checkIndex_17
section SJ
variable {p : Program} {l : Launch} {e : Env} {R : Room} {s : State} {m : MethodId} {args : Array Value} {below : List Frame} {meth : Method} {c : Code} {H H0 : Heap} {locs : List Loc} {cells slots : Nat} {Q : State → Prop}
variable {cc : ByteArray} {pc nL : Nat} {ls : Array Slot} {rest : List Value} {κ : Nat × Nat × Nat}
theorem jc_isLatin1 (S : CallFix p m c cc nL s args lw_all RJ5) (h : kS κ s H) (hR : kRm R 1 cells slots) (hsz : ls.size = nL) (hrest : (rest.map fun v => v.category).sum ≤ 8) (hdg : decode cc pc = .ok (.invokevirtual 492, 3)) (kk : W p l e R s m args below meth c H locs cells slots Q (F0 m (pc + 3) ls (.int (b2i True) :: rest))) : W p l e R s m args below meth c H locs cells slots Q (F0 m pc ls (.ref κ.1 :: rest)) :=
  kk_Ri (W.runV (As := []) (rest := rest) S (kJ5_isLatin1 l κ) (cwV 0 S.2.2.2.2 (lw_V q1051 q1052 q1053 q121 q1054) rfl rfl rfl (by decide +kernel) ⟨hR.1, by have := hR.2.1; show 8 + (1 + 11) + 38 * 0 ≤ R.locals; omega⟩) ⟨kS_blind, (by obtain ⟨cell, h1, h2, h3, -⟩ := h.2.1; exact ⟨cell, h1, h2, h3⟩), h.pre⟩ rfl rfl hsz rfl (lv_room hrest) hdg ⟨hR.2.2.1, hR.2.2.2⟩) kk
theorem jc_checkIndex7N (S : CallFix p m c cc nL s args lw_all RJ5)  (hR : kRm R 1 cells slots) (hsz : ls.size = nL) {i n : Nat} (hi : i < n) (hn : n < 2 ^ 31) (hrest : (rest.map fun v => v.category).sum ≤ 8) (hdg : decode cc pc = .ok (.invokestatic 1059, 3)) (kk : W p l e R s m args below meth c H locs cells slots Q (F0 m (pc + 3) ls (.int (nI i) :: rest))) : W p l e R s m args below meth c H locs cells slots Q (F0 m pc ls (.null :: .int (nI n) :: .int (nI i) :: rest)) :=
  kk_Ri (W.runS (As := [.int (nI i), .int (nI n), .null]) (rest := rest) S (kJ7_checkIndexN l i n hi hn) (va_cwS 3 S.2.2.2.2 (lw_S q1065 q1066 q123 q1067) rfl rfl rfl (by decide +kernel) ⟨hR.1, by have := hR.2.1; show 8 + (3 + 11) + 38 * 0 ≤ R.locals; omega⟩) ⟨kk_blindT, fun U hU hW => ⟨rfl, trivial⟩⟩ rfl rfl hsz rfl (lv_room hrest) hdg ⟨hR.2.2.1, hR.2.2.2⟩) kk
theorem jc_checkIndex7R (S : CallFix p m c cc nL s args lw_all RJ5)  (hR : kRm R 1 cells slots) (hsz : ls.size = nL) {i n a : Nat} (hi : i < n) (hn : n < 2 ^ 31) (hrest : (rest.map fun v => v.category).sum ≤ 8) (hdg : decode cc pc = .ok (.invokestatic 1059, 3)) (kk : W p l e R s m args below meth c H locs cells slots Q (F0 m (pc + 3) ls (.int (nI i) :: rest))) : W p l e R s m args below meth c H locs cells slots Q (F0 m pc ls (.ref a :: .int (nI n) :: .int (nI i) :: rest)) :=
  kk_Ri (W.runS (As := [.int (nI i), .int (nI n), .ref a]) (rest := rest) S (kJ7_checkIndexR l i n a hi hn) (va_cwS 3 S.2.2.2.2 (lw_S q1065 q1066 q123 q1067) rfl rfl rfl (by decide +kernel) ⟨hR.1, by have := hR.2.1; show 8 + (3 + 11) + 38 * 0 ≤ R.locals; omega⟩) ⟨kk_blindT, fun U hU hW => ⟨rfl, trivial⟩⟩ rfl rfl hsz rfl (lv_room hrest) hdg ⟨hR.2.2.1, hR.2.2.2⟩) kk
end SJ
set_option maxHeartbeats 4000000 in
theorem kJ5_checkIndex (l : Launch) (κ : Nat × Nat × Nat) (i : Nat) (hi : i < 78) : Met l yJ5_checkIndex (ws_ yJ5_checkIndex cJ5_checkIndex 2 none) (rmF 1) (va_Pc [.int (nI i), .int (nI 78)] (fun U => kS κ U U.heap)) (kR none) 0 0 (fun _ => False) := by
  refine kk_start (by decide) (Nat.le_of_ble_eq_true rfl) ?_
  intro p e s m below meth c S hr hlk hin hB ls hl
  have hx := S.1
  have hb := S.2.1
  have hown := S.2.2.2.1
  have hts := S.2.2.2.2
  have hl : lv_has ls 2 [(0, .int (nI i)), (1, .int (nI 78))] := hl
  refine lv_iload_n hx hb dJ5_checkIndex_0 rfl (lv_at hl 0 rfl) ?_
  refine lv_iload_n hx hb dJ5_checkIndex_1 rfl (lv_at hl 1 rfl) ?_
  rcases hB.2.2.2.2.2.2 with hZ | ⟨q, hZ⟩
  · refine va_gets hx hb hZ va_S.rf hown (hts _ q1063) (fun _ h => h) dJ5_checkIndex_2 ?_
    refine jc_checkIndex7N S (rm_ok (Nat.le_of_ble_eq_true rfl)) hl.1 hi (by decide) (Nat.le_of_ble_eq_true rfl) dJ5_checkIndex_5 ?_
    refine lv_pop hx hb dJ5_checkIndex_8 rfl ?_
    exact kk_vretR S hr hlk rfl rfl dJ5_checkIndex_9
  · refine va_gets hx hb hZ va_S.rf hown (hts _ q1063) (fun _ h => h) dJ5_checkIndex_2 ?_
    refine jc_checkIndex7R S (rm_ok (Nat.le_of_ble_eq_true rfl)) hl.1 hi (by decide) (Nat.le_of_ble_eq_true rfl) dJ5_checkIndex_5 ?_
    refine lv_pop hx hb dJ5_checkIndex_8 rfl ?_
    exact kk_vretR S hr hlk rfl rfl dJ5_checkIndex_9
section SJ
variable {p : Program} {l : Launch} {e : Env} {R : Room} {s : State} {m : MethodId} {args : Array Value} {below : List Frame} {meth : Method} {c : Code} {H H0 : Heap} {locs : List Loc} {cells slots : Nat} {Q : State → Prop}
variable {cc : ByteArray} {pc nL : Nat} {ls : Array Slot} {rest : List Value} {κ : Nat × Nat × Nat}
theorem jc_checkIndex5 (S : CallFix p m c cc nL s args lw_all RJ6) (h : kS κ s H) (hR : kRm R 2 cells slots) (hsz : ls.size = nL) {i : Nat} (hi : i < 78) (hrest : (rest.map fun v => v.category).sum ≤ 8) (hdg : decode cc pc = .ok (.invokestatic 9, 3)) (kk : W p l e R s m args below meth c H locs cells slots Q (F0 m (pc + 3) ls (rest))) : W p l e R s m args below meth c H locs cells slots Q (F0 m pc ls (.int (nI 78) :: .int (nI i) :: rest)) :=
  kk_Rv (W.runS (As := [.int (nI i), .int (nI 78)]) (rest := rest) S (kJ5_checkIndex l κ i hi) (va_cwS 2 S.2.2.2.2 (lw_S q1060 q1061 q121 q1062) rfl rfl rfl (by decide +kernel) ⟨hR.1, by have := hR.2.1; show 8 + (2 + 11) + 38 * 1 ≤ R.locals; omega⟩) ⟨kS_blind, h.pre⟩ rfl rfl hsz rfl (lv_room hrest) hdg ⟨hR.2.2.1, hR.2.2.2⟩) kk
end SJ
theorem kk_cretR {p : Program} {l : Launch} {e : Env} {R : Room} {s : State} {m : MethodId} {args : Array Value} {below : List Frame} {meth : Method} {c : Code} {H : Heap} {locs : List Loc} {cells slots : Nat} {cc : ByteArray} {pc nL : Nat} {ls : Array Slot} {own : String} {v : Int32} (S : CallFix p m c cc nL s args lw_all own) (hr : meth.sig.returnType = some .char) (hn : narrow .char (.int v) = .int v) (hlocks : meth.locks = false) (hH : H = s.heap) (hL : locs = []) (hdg : decode cc pc = .ok (.ireturn, 1)) : W p l e R s m args below meth c H locs cells slots (MQ below (kR (some (.int v))) args s cells slots (fun _ => False)) (F0 m pc ls [.int v]) :=
  W.zret S.1 S.2.1 hr hn (fun t ht _ => ⟨rfl, ht.trans hH⟩) (fun q hq => by rw [hL] at hq; cases hq) hdg hlocks
set_option maxHeartbeats 4000000 in
theorem kJ6_charAt (l : Launch) (κ : Nat × Nat × Nat) (i : Nat) (hi : i < 78) : Met l yJ6_charAt (ws_ yJ6_charAt cJ6_charAt 2 (some .char)) (rmF 2) (va_Pc [.ref κ.2.1, .int (nI i)] (fun U => kS κ U U.heap)) (kR (some (.int (keyC i)))) 0 0 (fun _ => False) := by
  refine kk_start (by decide) (Nat.le_of_ble_eq_true rfl) ?_
  intro p e s m below meth c S hr hlk hin hB ls hl
  have hx := S.1
  have hb := S.2.1
  have hown := S.2.2.2.1
  have hts := S.2.2.2.2
  have hl : lv_has ls 2 [(0, .ref κ.2.1), (1, .int (nI i))] := hl
  refine lv_iload_n hx hb dJ6_charAt_0 rfl (lv_at hl 1 rfl) ?_
  refine lv_aload_n hx hb dJ6_charAt_1 rfl (lv_at hl 0 rfl) ?_
  refine va_tlen (v := nI 78) hx hb hB.2.2.2.2.1 va_S.rf rfl dJ6_charAt_2 ?_
  refine jc_checkIndex5 S hB (rm_ok (Nat.le_of_ble_eq_true rfl)) hl.1 hi (Nat.le_of_ble_eq_true rfl) dJ6_charAt_3 ?_
  refine lv_aload_n hx hb dJ6_charAt_6 rfl (lv_at hl 0 rfl) ?_
  refine lv_iload_n hx hb dJ6_charAt_7 rfl (lv_at hl 1 rfl) ?_
  refine va_tb (v := .int (keyC i)) hx hb hB.2.2.2.2.1 va_S.rf (vp_in_nI hi (by decide)) (by rw [nI_clamp (by omega)]) dJ6_charAt_8 ?_
  refine lv_sipush (v := 255) hx hb dJ6_charAt_9 (by decide) ?_
  refine lv_iand hx hb dJ6_charAt_12 ?_
  refine lv_i2c hx hb dJ6_charAt_13 rfl ?_
  refine kb_val (y := .int (keyC i)) (congrArg Value.int (keyC_c i hi).1) ?_
  exact kk_cretR S hr (keyC_c i hi).2 hlk rfl rfl dJ6_charAt_14
section SJ
variable {p : Program} {l : Launch} {e : Env} {R : Room} {s : State} {m : MethodId} {args : Array Value} {below : List Frame} {meth : Method} {c : Code} {H H0 : Heap} {locs : List Loc} {cells slots : Nat} {Q : State → Prop}
variable {cc : ByteArray} {pc nL : Nat} {ls : Array Slot} {rest : List Value} {κ : Nat × Nat × Nat}
theorem jc_charAt6 (S : CallFix p m c cc nL s args lw_all RJ5) (h : kS κ s H) (hR : kRm R 3 cells slots) (hsz : ls.size = nL) {i : Nat} (hi : i < 78) (hrest : (rest.map fun v => v.category).sum ≤ 8) (hdg : decode cc pc = .ok (.invokestatic 495, 3)) (kk : W p l e R s m args below meth c H locs cells slots Q (F0 m (pc + 3) ls (.int (keyC i) :: rest))) : W p l e R s m args below meth c H locs cells slots Q (F0 m pc ls (.int (nI i) :: .ref κ.2.1 :: rest)) :=
  kk_Ri (W.runS (As := [.ref κ.2.1, .int (nI i)]) (rest := rest) S (kJ6_charAt l κ i hi) (va_cwS 2 S.2.2.2.2 (lw_S q1057 q1058 q122 q1059) rfl rfl rfl (by decide +kernel) ⟨hR.1, by have := hR.2.1; show 8 + (2 + 11) + 38 * 2 ≤ R.locals; omega⟩) ⟨kS_blind, h.pre⟩ rfl rfl hsz rfl (lv_room hrest) hdg ⟨hR.2.2.1, hR.2.2.2⟩) kk
end SJ
set_option maxHeartbeats 4000000 in
theorem kJ5_charAt (l : Launch) (κ : Nat × Nat × Nat) (i : Nat) (hi : i < 78) : Met l yJ5_charAt (ws_ yJ5_charAt cJ5_charAt 2 (some .char)) (rmF 3) (va_Pc [.ref κ.1, .int (nI i)] (fun U => kS κ U U.heap)) (kR (some (.int (keyC i)))) 0 0 (fun _ => False) := by
  refine kk_start (by decide) (Nat.le_of_ble_eq_true rfl) ?_
  intro p e s m below meth c S hr hlk hin hB ls hl
  have hx := S.1
  have hb := S.2.1
  have hown := S.2.2.2.1
  have hts := S.2.2.2.2
  have hl : lv_has ls 2 [(0, .ref κ.1), (1, .int (nI i))] := hl
  refine lv_aload_n hx hb dJ5_charAt_0 rfl (lv_at hl 0 rfl) ?_
  refine jc_isLatin1 S hB (rm_ok (Nat.le_of_ble_eq_true rfl)) hl.1 (Nat.le_of_ble_eq_true rfl) dJ5_charAt_1 ?_
  refine kb_ifeq (P := True) S (tgt := 16) dJ5_charAt_4 (by decide) (fun c_4 => absurd trivial c_4) (fun c_4 => ?_)
  refine lv_aload_n hx hb dJ5_charAt_7 rfl (lv_at hl 0 rfl) ?_
  refine vk_getf hx hb hB.2.2.2.1 va_S.rf hown (hts _ q1735) (fun _ h => h) dJ5_charAt_8 ?_
  refine lv_iload_n hx hb dJ5_charAt_11 rfl (lv_at hl 1 rfl) ?_
  refine jc_charAt6 S hB (rm_ok (Nat.le_of_ble_eq_true rfl)) hl.1 hi (Nat.le_of_ble_eq_true rfl) dJ5_charAt_12 ?_
  exact kk_cretR S hr (keyC_c i hi).2 hlk rfl rfl dJ5_charAt_15
section SJ
variable {p : Program} {l : Launch} {e : Env} {R : Room} {s : State} {m : MethodId} {args : Array Value} {below : List Frame} {meth : Method} {c : Code} {H H0 : Heap} {locs : List Loc} {cells slots : Nat} {Q : State → Prop}
variable {cc : ByteArray} {pc nL : Nat} {ls : Array Slot} {rest : List Value} {κ : Nat × Nat × Nat}
theorem jc_charAt (S : CallFix p m c cc nL s args lw_all RX2) (h : kS κ s H) (hR : kRm R 4 cells slots) (hsz : ls.size = nL) {i : Nat} (hi : i < 78) (hrest : (rest.map fun v => v.category).sum ≤ 8) (hdg : decode cc pc = .ok (.invokevirtual 76, 3)) (kk : W p l e R s m args below meth c H locs cells slots Q (F0 m (pc + 3) ls (.int (keyC i) :: rest))) : W p l e R s m args below meth c H locs cells slots Q (F0 m pc ls (.int (nI i) :: .ref κ.1 :: rest)) :=
  kk_Ri (W.runV (As := [.int (nI i)]) (rest := rest) S (kJ5_charAt l κ i hi) (cwV 1 S.2.2.2.2 (lw_V q1047 q1048 q1049 q121 q1050) rfl rfl rfl (by decide +kernel) ⟨hR.1, by have := hR.2.1; show 8 + (2 + 11) + 38 * 3 ≤ R.locals; omega⟩) ⟨kS_blind, (by obtain ⟨cell, h1, h2, h3, -⟩ := h.2.1; exact ⟨cell, h1, h2, h3⟩), h.pre⟩ rfl rfl hsz rfl (lv_room hrest) hdg ⟨hR.2.2.1, hR.2.2.2⟩) kk
end SJ

def bcI (x : Int32) : Int32 :=
  let z1 : Int32 := x - ((x.toUInt32 >>> (Int32.toUInt32 1 &&& Int32.toUInt32 31)).toInt32 &&& 1431655765)
  let z2 : Int32 := (z1 &&& 858993459) + ((z1.toUInt32 >>> (Int32.toUInt32 2 &&& Int32.toUInt32 31)).toInt32 &&& 858993459)
  let z3 : Int32 := (z2 + (z2.toUInt32 >>> (Int32.toUInt32 4 &&& Int32.toUInt32 31)).toInt32) &&& 252645135
  let z4 : Int32 := z3 + (z3.toUInt32 >>> (Int32.toUInt32 8 &&& Int32.toUInt32 31)).toInt32
  let z5 : Int32 := z4 + (z4.toUInt32 >>> (Int32.toUInt32 16 &&& Int32.toUInt32 31)).toInt32
  z5 &&& 63
set_option maxRecDepth 100000 in
theorem bc_ok : ∀ a, a < 256 → bcI (nI a) = nI (p_many a) := by decide +kernel
set_option maxHeartbeats 4000000 in
set_option maxRecDepth 100000 in
theorem k_bitCount (l : Launch) (a : Nat) (h0 : a < 256) : Met l yJ4_bitCount (ws_ yJ4_bitCount cJ4_bitCount 1 (some .int)) (rmF 0) (va_Pc [.int (nI a)] (fun _ => True)) (kR (some (.int (nI (p_many a))))) 0 0 (fun _ => False) := by
  refine kk_start (by decide) (Nat.le_of_ble_eq_true rfl) ?_
  intro p e s m below meth c S hr hlk hin hB ls hl
  have hx := S.1
  have hb := S.2.1
  have hown : s.vm.findClass RJ4 = some m.cls := S.2.2.2.1
  have hts := S.2.2.2.2
  have hl : lv_has ls 1 [(0, .int ((nI a)))] := hl
  refine lv_iload_n hx hb dJ4_bitCount_0 rfl (lv_at hl 0 rfl) ?_
  refine lv_iload_n hx hb dJ4_bitCount_1 rfl (lv_at hl 0 rfl) ?_
  refine lv_iconst (v := 1) hx hb dJ4_bitCount_2 (by decide) ?_
  refine lv_iushr hx hb dJ4_bitCount_3 rfl ?_
  refine lv_ldcw (v := 1431655765) hx hb hown (hts _ q581) dJ4_bitCount_4 ?_
  refine lv_iand hx hb dJ4_bitCount_7 ?_
  refine lv_isub hx hb dJ4_bitCount_8 ?_
  refine lv_topi (fun z_1 ez_1 => ?_)
  refine lv_istore_n (lv' := [(0, .int (z_1))]) hx hb dJ4_bitCount_9 rfl hl (by decide) rfl (fun ls hl => ?_)
  refine lv_iload_n hx hb dJ4_bitCount_10 rfl (lv_at hl 0 rfl) ?_
  refine lv_ldcw (v := 858993459) hx hb hown (hts _ q582) dJ4_bitCount_11 ?_
  refine lv_iand hx hb dJ4_bitCount_14 ?_
  refine lv_iload_n hx hb dJ4_bitCount_15 rfl (lv_at hl 0 rfl) ?_
  refine lv_iconst (v := 2) hx hb dJ4_bitCount_16 (by decide) ?_
  refine lv_iushr hx hb dJ4_bitCount_17 rfl ?_
  refine lv_ldcw (v := 858993459) hx hb hown (hts _ q582) dJ4_bitCount_18 ?_
  refine lv_iand hx hb dJ4_bitCount_21 ?_
  refine lv_iadd hx hb dJ4_bitCount_22 ?_
  refine lv_topi (fun z_2 ez_2 => ?_)
  refine lv_istore_n (lv' := [(0, .int (z_2))]) hx hb dJ4_bitCount_23 rfl hl (by decide) rfl (fun ls hl => ?_)
  refine lv_iload_n hx hb dJ4_bitCount_24 rfl (lv_at hl 0 rfl) ?_
  refine lv_iload_n hx hb dJ4_bitCount_25 rfl (lv_at hl 0 rfl) ?_
  refine lv_iconst (v := 4) hx hb dJ4_bitCount_26 (by decide) ?_
  refine lv_iushr hx hb dJ4_bitCount_27 rfl ?_
  refine lv_iadd hx hb dJ4_bitCount_28 ?_
  refine lv_ldcw (v := 252645135) hx hb hown (hts _ q583) dJ4_bitCount_29 ?_
  refine lv_iand hx hb dJ4_bitCount_32 ?_
  refine lv_topi (fun z_3 ez_3 => ?_)
  refine lv_istore_n (lv' := [(0, .int (z_3))]) hx hb dJ4_bitCount_33 rfl hl (by decide) rfl (fun ls hl => ?_)
  refine lv_iload_n hx hb dJ4_bitCount_34 rfl (lv_at hl 0 rfl) ?_
  refine lv_iload_n hx hb dJ4_bitCount_35 rfl (lv_at hl 0 rfl) ?_
  refine lv_bipush (v := 8) hx hb dJ4_bitCount_36 (by decide) ?_
  refine lv_iushr hx hb dJ4_bitCount_38 rfl ?_
  refine lv_iadd hx hb dJ4_bitCount_39 ?_
  refine lv_topi (fun z_4 ez_4 => ?_)
  refine lv_istore_n (lv' := [(0, .int (z_4))]) hx hb dJ4_bitCount_40 rfl hl (by decide) rfl (fun ls hl => ?_)
  refine lv_iload_n hx hb dJ4_bitCount_41 rfl (lv_at hl 0 rfl) ?_
  refine lv_iload_n hx hb dJ4_bitCount_42 rfl (lv_at hl 0 rfl) ?_
  refine lv_bipush (v := 16) hx hb dJ4_bitCount_43 (by decide) ?_
  refine lv_iushr hx hb dJ4_bitCount_45 rfl ?_
  refine lv_iadd hx hb dJ4_bitCount_46 ?_
  refine lv_topi (fun z_5 ez_5 => ?_)
  refine lv_istore_n (lv' := [(0, .int (z_5))]) hx hb dJ4_bitCount_47 rfl hl (by decide) rfl (fun ls hl => ?_)
  refine lv_iload_n hx hb dJ4_bitCount_48 rfl (lv_at hl 0 rfl) ?_
  refine lv_bipush (v := 63) hx hb dJ4_bitCount_49 (by decide) ?_
  refine lv_iand hx hb dJ4_bitCount_51 ?_
  exact kk_iretR S hr hlk rfl rfl (by subst ez_5 ez_4 ez_3 ez_2 ez_1; exact bc_ok a h0) dJ4_bitCount_52
section WC
variable {p : Program} {l : Launch} {e : Env} {R : Room} {s : State} {m : MethodId} {args : Array Value} {below : List Frame} {meth : Method} {c : Code} {H H0 : Heap} {locs : List Loc} {cells slots : Nat} {Q : State → Prop}
variable {cc : ByteArray} {pc nL : Nat} {ls : Array Slot} {rest : List Value} {t : CT} {r : Rw} {A : Nat → Prop}
theorem c0_bitCount (S : CallFix p m c cc nL s args lw_all RX0) (hR : kRm R 1 cells slots) (hsz : ls.size = nL) (a : Nat) (h0 : a < 256) {i0 : Int32} (e0 : i0 = nI a) (hrest : (rest.map fun v => v.category).sum ≤ 8) (hdg : decode cc pc = .ok (.invokestatic 1, 3)) (kk : W p l e R s m args below meth c H locs cells slots Q (F0 m (pc + 3) ls (.int (nI (p_many a)) :: rest))) : W p l e R s m args below meth c H locs cells slots Q (F0 m pc ls (.int i0 :: rest)) := by
  subst e0
  exact kk_Ri (W.runS (As := [.int (nI a)]) (rest := rest) S (k_bitCount l a h0) (va_cwS 1 S.2.2.2.2 (lw_S q578 q579 q119 q580) rfl rfl rfl (by decide +kernel) ⟨hR.1, by have := hR.2.1; show 8 + (1 + 11) + 38 * 0 ≤ R.locals; omega⟩) ⟨kk_blindT, fun U hU hW => ⟨rfl, trivial⟩⟩ rfl rfl hsz rfl (lv_room hrest) hdg ⟨hR.2.2.1, hR.2.2.2⟩) kk
end WC

/-! READER: tokens -/
theorem all_succ {P : Nat → Prop} {i : Nat} (h : ∀ j, j < i → P j) (hi : P i) : ∀ j, j < i + 1 → P j := fun j hj => (Nat.lt_or_eq_of_le (Nat.le_of_lt_succ hj)).elim (h j) (fun e => e ▸ hi)
theorem q_wl_ltr {B : Bt} : ∀ j k i, i < q_wl B j k - k → ltr (B (k + i))
  | 0, k, i, h => by rw [q_wl] at h; omega
  | j + 1, k, i, h => by
    rw [q_wl] at h
    split at h
    · next e =>
      cases i with
      | zero => exact e
      | succ i =>
        have := q_wl_ltr (B := B) j (k + 1) i (by omega)
        rw [show k + (i + 1) = k + 1 + i by omega]
        exact this
    · omega
theorem nx_all {tp f : Nat} {z : Nat → Rw} (hf : f = q_sk (mB z tp) 121 (toN z)) : q_next tp z 9 4 = nI (q_tok (mB z tp f)) ∧ q_next tp z 9 5 = nI f ∧ q_next tp z 9 6 = nI (q_to (mB z tp) f) ∧ q_next tp z 9 7 = q_val (mB z tp) f := by
  subst hf
  exact ⟨rfl, rfl, rfl, rfl⟩
theorem nx_n {tp f : Nat} {z : Nat → Rw} (hp : PI tp z) (hf : f = q_sk (mB z tp) 121 (toN z)) : f ≤ tp ∧ frN (q_next tp z) = f ∧ toN (q_next tp z) = q_to (mB z tp) f := by
  have h1 := q_sk_le (mB_end z tp) 121 (toN z) hp.to.2
  have h2 := hp.2.1
  subst hf
  have h3 := q_to_le (mB_end z tp) h1
  exact ⟨h1, nI_clamp (by omega), nI_clamp (by omega)⟩
theorem to_1 {B : Bt} {f : Nat} (h : q_tok (B f) = 1) : q_to B f = q_wl B 121 f := by unfold q_to; rw [h]; rfl
theorem to_2 {B : Bt} {f : Nat} (h : q_tok (B f) = 2) : q_to B f = (q_dg B 121 f 0).1 ∧ q_val B f = (q_dg B 121 f 0).2 := by unfold q_to q_val; rw [h]; exact ⟨rfl, rfl⟩
theorem to_0 {B : Bt} {f : Nat} (h : q_tok (B f) = 0) : q_to B f = f := by unfold q_to; rw [h]; rfl
theorem to_3 {B : Bt} {f : Nat} (h : q_tok (B f) = 3) : q_to B f = f + 1 := by unfold q_to; rw [h]; rfl
theorem rd_w {tp f q k : Nat} {z : Nat → Rw} {u : Rw} (hp : PI tp z) (hf : f = q_sk (mB z tp) 121 (toN z)) (ht : q_tok (mB z tp f) = 1) (hq : q = q_wl (mB z tp) 121 f) (hk : k < 13) (hX : keyX (mB z tp) f (q - f) k) (h0 : u 0 = nI tp) (h1 : u 1 = nI q) (h2 : u 2 = nI f) (h3 : u 3 = 2) (h4 : u 4 = nI k) : RD tp (q_next tp z) u := by
  obtain ⟨a1, a2, a3, a4⟩ := nx_all hf
  obtain ⟨b1, b2, b3⟩ := nx_n hp hf
  refine ⟨h0, by rw [h1, a3, to_1 ht, hq], by rw [h2, a2], Or.inr (Or.inr (Or.inr ⟨by rw [a1, ht]; rfl, k, hk, ?_, h3, h4⟩))⟩
  show keyX (mB z tp) (frN (q_next tp z)) (toN (q_next tp z) - frN (q_next tp z)) k
  rw [b2, b3, to_1 ht, ← hq]
  exact hX
theorem nogood_w {tp f q : Nat} {z : Nat → Rw} (hp : PI tp z) (hf : f = q_sk (mB z tp) 121 (toN z)) (ht : q_tok (mB z tp f) = 1) (hq : q = q_wl (mB z tp) 121 f) (hX : ∀ k, k < 13 → ¬ keyX (mB z tp) f (q - f) k) : ¬ good tp (q_next tp z) := by
  obtain ⟨a1, a2, a3, a4⟩ := nx_all hf
  obtain ⟨b1, b2, b3⟩ := nx_n hp hf
  have e : q_next tp z 9 4 = 1 := by rw [a1, ht]; rfl
  rintro (h | h | h | ⟨-, k, hk, h⟩)
  · exact absurd (e.symm.trans h) (by decide)
  · exact absurd (e.symm.trans h) (by decide)
  · exact absurd (e.symm.trans h.1) (by decide)
  · refine hX k hk ?_
    have h : keyX (mB z tp) (frN (q_next tp z)) (toN (q_next tp z) - frN (q_next tp z)) k := h
    rw [b2, b3, to_1 ht, ← hq] at h
    exact h
theorem rd_d {tp f q : Nat} {v : Int32} {z : Nat → Rw} {u : Rw} (hf : f = q_sk (mB z tp) 121 (toN z)) (ht : q_tok (mB z tp f) = 2) (hq : (q, v) = q_dg (mB z tp) 121 f 0) (hv : v ≤ 999) (h0 : u 0 = nI tp) (h1 : u 1 = nI q) (h2 : u 2 = nI f) (h3 : u 3 = 1) (h4 : u 4 = v) : RD tp (q_next tp z) u := by
  obtain ⟨a1, a2, a3, a4⟩ := nx_all hf
  obtain ⟨t1, t2⟩ := to_2 ht
  rw [← hq] at t1 t2
  exact ⟨h0, by rw [h1, a3, t1], by rw [h2, a2], Or.inr (Or.inr (Or.inl ⟨by rw [a1, ht]; rfl, by rw [a4, t2]; exact hv, h3, by rw [h4, a4, t2]⟩))⟩
theorem nogood_d {tp f q : Nat} {v : Int32} {z : Nat → Rw} (hf : f = q_sk (mB z tp) 121 (toN z)) (ht : q_tok (mB z tp f) = 2) (hq : (q, v) = q_dg (mB z tp) 121 f 0) (hv : ¬ v ≤ 999) : ¬ good tp (q_next tp z) := by
  obtain ⟨a1, a2, a3, a4⟩ := nx_all hf
  obtain ⟨t1, t2⟩ := to_2 ht
  rw [← hq] at t1 t2
  have e : q_next tp z 9 4 = 2 := by rw [a1, ht]; rfl
  rintro (h | h | h | ⟨h, -⟩)
  · exact absurd (e.symm.trans h) (by decide)
  · exact absurd (e.symm.trans h) (by decide)
  · rw [a4, t2] at h; exact hv h.2
  · exact absurd (e.symm.trans h) (by decide)
theorem rd_0 {tp f : Nat} {z : Nat → Rw} {u : Rw} (hf : f = q_sk (mB z tp) 121 (toN z)) (ht : q_tok (mB z tp f) = 0) (h0 : u 0 = nI tp) (h1 : u 1 = nI f) (h2 : u 2 = nI f) (h3 : u 3 = 0) : RD tp (q_next tp z) u := by
  obtain ⟨a1, a2, a3, a4⟩ := nx_all hf
  exact ⟨h0, by rw [h1, a3, to_0 ht], by rw [h2, a2], Or.inl ⟨by rw [a1, ht]; rfl, h3⟩⟩
theorem rd_3 {tp f : Nat} {z : Nat → Rw} {u : Rw} (hf : f = q_sk (mB z tp) 121 (toN z)) (ht : q_tok (mB z tp f) = 3) (h0 : u 0 = nI tp) (h1 : u 1 = nI (f + 1)) (h2 : u 2 = nI f) (h3 : u 3 = 3) : RD tp (q_next tp z) u := by
  obtain ⟨a1, a2, a3, a4⟩ := nx_all hf
  exact ⟨h0, by rw [h1, a3, to_3 ht], by rw [h2, a2], Or.inr (Or.inl ⟨by rw [a1, ht]; rfl, h3⟩)⟩
theorem nogood_4 {tp f : Nat} {z : Nat → Rw} (hf : f = q_sk (mB z tp) 121 (toN z)) (ht : q_tok (mB z tp f) = 4) : ¬ good tp (q_next tp z) := by
  obtain ⟨a1, a2, a3, a4⟩ := nx_all hf
  have e : q_next tp z 9 4 = 4 := by rw [a1, ht]; rfl
  rintro (h | h | h | ⟨h, -⟩)
  · exact absurd (e.symm.trans h) (by decide)
  · exact absurd (e.symm.trans h) (by decide)
  · exact absurd (e.symm.trans h.1) (by decide)
  · exact absurd (e.symm.trans h) (by decide)
set_option maxHeartbeats 4000000 in
set_option maxRecDepth 100000 in
theorem k2_isKey (l : Launch) (t : CT) (r : Rw) (x : Nat → Rw) (κ : Nat × Nat × Nat) (hA : ∀ q, cA t q → κ.2.2 ≤ q) (k : Nat) (n : Nat) (tp : Nat) (z : Nat → Rw) (f : Nat) (hu0 : x 10 0 = nI tp) (h120 : tp ≤ 120) (htz : tpe z x) (hk : k < 13) (hn : n ≤ 120) (hf : x 10 2 = nI f) (hfn : f + n ≤ 120) : Met l yX2_isKey (ws_ yX2_isKey cX2_isKey 5 (some .boolean)) (rmF 4) (va_Pc [.ref (t.2.1 1), .int (nI k), .int (nI n)] (fun U => cK t U ∧ cX t r x U.heap ∧ kS κ U U.heap)) (kR (some (.int (b2i (keyP (mB z tp) f n k))))) 0 0 (fun _ => False) := by
  refine kk_start (by decide) (Nat.le_of_ble_eq_true rfl) ?_
  intro p e s m below meth c S hr hlk hin hB ls hl
  obtain ⟨hK, hP⟩ := hB
  have hx := S.1
  have hb := S.2.1
  have hown : s.vm.findClass RX2 = some m.cls := S.2.2.2.1
  have hts := S.2.2.2.2
  have hl : lv_has ls 5 [(0, .ref (t.2.1 1)), (1, .int ((nI k))), (2, .int ((nI n)))] := hl
  obtain ⟨hP, hE⟩ := hP
  refine lv_iload_n hx hb dX2_isKey_0 rfl (lv_at hl 2 rfl) ?_
  refine lv_bipush (v := 6) hx hb dX2_isKey_1 (by decide) ?_
  refine kb_gt_n (tgt := 32) (a := n) (b := 6) S rfl rfl (by omega) (by omega) dX2_isKey_3 (by decide) (fun c_3 => ?_) (fun c_3 => ?_)
  · skip
    refine lv_iconst (v := 0) hx hb dX2_isKey_32 (by decide) ?_
    refine lv_istore_n (lv' := [(3, .int (0)), (0, .ref (t.2.1 1)), (1, .int ((nI k))), (2, .int ((nI n)))]) hx hb dX2_isKey_33 rfl hl (by decide) rfl (fun ls hl => ?_)
    refine lv_iconst (v := 0) hx hb dX2_isKey_34 (by decide) ?_
    refine lv_istore (lv' := [(4, .int (0)), (3, .int (0)), (0, .ref (t.2.1 1)), (1, .int ((nI k))), (2, .int ((nI n)))]) hx hb dX2_isKey_35 hl (by decide) rfl (fun ls hl => ?_)
    have lp_37 : ∀ (j i : Nat) (q : Bool) (ls : Array Slot), i + j = n → (q = true ↔ (n ≤ 6 ∧ (n = 6 ∨ keyC (6 * k + n) = 32) ∧ ∀ i', i' < i → keyC (6 * k + i') = mB z tp (f + i'))) → lv_has ls 5 [(0, .ref (t.2.1 1)), (1, .int ((nI k))), (2, .int ((nI n))), (3, .int ((b2i (q = true)))), (4, .int ((nI i)))] → W p l e (rmF 4) s m ([.ref (t.2.1 1), .int (nI k), .int (nI n)] : List Value).toArray below meth c s.heap [] 0 0 (MQ below (kR (some (.int (b2i (keyP (mB z tp) f n k))))) ([.ref (t.2.1 1), .int (nI k), .int (nI n)] : List Value).toArray s 0 0 (fun _ => False)) (F0 m 37 ls []) := by
      intro j
      induction j with
      | zero =>
        intro i q ls hkj he hl
        refine lv_iload hx hb dX2_isKey_37 (lv_at hl 4 rfl) ?_
        refine lv_iload_n hx hb dX2_isKey_39 rfl (lv_at hl 2 rfl) ?_
        refine kb_ge_n (tgt := 85) (a := i) (b := n) S rfl rfl (by omega) (by omega) dX2_isKey_40 (by decide) (fun c_40 => ?_) (fun c_40 => ?_)
        · skip
          refine lv_iload_n hx hb dX2_isKey_85 rfl (lv_at hl 3 rfl) ?_
          exact kk_zretR (ty := .boolean) S hr hlk rfl rfl (⟨fun h => by have g := he.mp h; exact ⟨g.1, g.2.1, fun i' hi' => g.2.2 i' (by omega)⟩, fun h => he.mpr ⟨h.1, h.2.1, fun i' hi' => h.2.2 i' (by omega)⟩⟩) dX2_isKey_86
        · exact absurd c_40 (by omega)
      | succ j ih =>
        intro i q ls hkj he hl
        have ih_37 := ih
        refine lv_iload hx hb dX2_isKey_37 (lv_at hl 4 rfl) ?_
        refine lv_iload_n hx hb dX2_isKey_39 rfl (lv_at hl 2 rfl) ?_
        refine kb_ge_n (tgt := 85) (a := i) (b := n) S rfl rfl (by omega) (by omega) dX2_isKey_40 (by decide) (fun c_40 => ?_) (fun c_40 => ?_)
        · exact absurd c_40 (by omega)
        · skip
          refine lv_iload_n hx hb dX2_isKey_43 rfl (lv_at hl 3 rfl) ?_
          refine kb_ifeq (tgt := 85) S dX2_isKey_44 (by decide) (fun c_44 => ?_) (fun c_44 => ?_)
          · skip
            refine lv_iload_n hx hb dX2_isKey_85 rfl (lv_at hl 3 rfl) ?_
            exact kk_zretR (ty := .boolean) S hr hlk rfl rfl (iff_of_false c_44 (fun h => c_44 (he.mpr ⟨h.1, h.2.1, fun i' hi' => h.2.2 i' (by omega)⟩))) dX2_isKey_86
          · skip
            refine va_ldcS hx hb hown hE.1 dX2_isKey_47 ?_
            refine lv_bipush (v := 6) hx hb dX2_isKey_49 (by decide) ?_
            refine lv_iload_n hx hb dX2_isKey_51 rfl (lv_at hl 1 rfl) ?_
            refine lv_imul hx hb dX2_isKey_52 ?_
            refine lv_iload hx hb dX2_isKey_53 (lv_at hl 4 rfl) ?_
            refine lv_iadd hx hb dX2_isKey_55 ?_
            refine kb_val (y := .int (nI ((6 * k) + i))) (congrArg Value.int (nn_add (nn_mul rfl rfl) rfl)) ?_
            refine jc_charAt S hE (rm_ok (Nat.le_of_ble_eq_true rfl)) hl.1 (i := ((6 * k) + i)) (by have := (he.mp c_44).1; omega) (Nat.le_of_ble_eq_true rfl) dX2_isKey_56 ?_
            refine lv_aload_n hx hb dX2_isKey_59 rfl (lv_at hl 0 rfl) ?_
            refine lv_aload_n hx hb dX2_isKey_60 rfl (lv_at hl 0 rfl) ?_
            refine rg_begin S hK hP dX2_isKey_61 ?_
            refine lv_iload hx hb dX2_isKey_64 (lv_at hl 4 rfl) ?_
            refine lv_iadd hx hb dX2_isKey_66 ?_
            refine rc_byteAt S hK hP (rm_ok (Nat.le_of_ble_eq_true rfl)) hl.1 ((f + i)) (tp) (z) hu0 h120 htz (by omega) (nn_add hf rfl) (Nat.le_of_ble_eq_true rfl) dX2_isKey_67 ?_
            refine lv_icmp_ne (tgt := 77) hx hb dX2_isKey_70 (by decide) (fun c_70 => ?_) (fun c_70 => ?_)
            · skip
              refine lv_iconst (v := 0) hx hb dX2_isKey_77 (by decide) ?_
              refine lv_istore_n (lv' := [(3, .int (0)), (0, .ref (t.2.1 1)), (1, .int ((nI k))), (2, .int ((nI n))), (4, .int ((nI i)))]) hx hb dX2_isKey_78 rfl hl (by decide) rfl (fun ls hl => ?_)
              refine lv_iinc (v := (nI (i + 1))) (lv' := [(4, .int ((nI (i + 1)))), (3, .int (0)), (0, .ref (t.2.1 1)), (1, .int ((nI k))), (2, .int ((nI n)))]) hx hb dX2_isKey_79 hl (k := 4) rfl (nn_1 rfl) (by decide) rfl (fun ls hl => ?_)
              refine lv_goto (tgt := 37) hx hb dX2_isKey_82 (by decide) ?_
              exact ih_37 ((i + 1)) false ls (by omega) (iff_of_false Bool.false_ne_true (fun h => c_70 (h.2.2 i (by omega)))) (lv_sub hl [2, 3, 4, 1, 0] rfl)
            · skip
              refine lv_iconst (v := 1) hx hb dX2_isKey_73 (by decide) ?_
              refine lv_goto (tgt := 78) hx hb dX2_isKey_74 (by decide) ?_
              refine lv_istore_n (lv' := [(3, .int (1)), (0, .ref (t.2.1 1)), (1, .int ((nI k))), (2, .int ((nI n))), (4, .int ((nI i)))]) hx hb dX2_isKey_78 rfl hl (by decide) rfl (fun ls hl => ?_)
              refine lv_iinc (v := (nI (i + 1))) (lv' := [(4, .int ((nI (i + 1)))), (3, .int (1)), (0, .ref (t.2.1 1)), (1, .int ((nI k))), (2, .int ((nI n)))]) hx hb dX2_isKey_79 hl (k := 4) rfl (nn_1 rfl) (by decide) rfl (fun ls hl => ?_)
              refine lv_goto (tgt := 37) hx hb dX2_isKey_82 (by decide) ?_
              exact ih_37 ((i + 1)) true ls (by omega) (iff_of_true rfl ⟨(he.mp c_44).1, (he.mp c_44).2.1, all_succ (he.mp c_44).2.2 c_70⟩) (lv_sub hl [2, 3, 4, 1, 0] rfl)
    exact lp_37 n 0 false ls (by omega) (iff_of_false Bool.false_ne_true (fun h => by have := h.1; omega)) (lv_sub hl [2, 3, 4, 1, 0] rfl)
  · skip
    refine lv_iload_n hx hb dX2_isKey_6 rfl (lv_at hl 2 rfl) ?_
    refine lv_bipush (v := 6) hx hb dX2_isKey_7 (by decide) ?_
    refine kb_eq_n (tgt := 28) (a := n) (b := 6) S rfl rfl (by omega) (by omega) dX2_isKey_9 (by decide) (fun c_9 => ?_) (fun c_9 => ?_)
    · skip
      refine lv_iconst (v := 1) hx hb dX2_isKey_28 (by decide) ?_
      refine lv_goto (tgt := 33) hx hb dX2_isKey_29 (by decide) ?_
      refine lv_istore_n (lv' := [(3, .int (1)), (0, .ref (t.2.1 1)), (1, .int ((nI k))), (2, .int ((nI n)))]) hx hb dX2_isKey_33 rfl hl (by decide) rfl (fun ls hl => ?_)
      refine lv_iconst (v := 0) hx hb dX2_isKey_34 (by decide) ?_
      refine lv_istore (lv' := [(4, .int (0)), (3, .int (1)), (0, .ref (t.2.1 1)), (1, .int ((nI k))), (2, .int ((nI n)))]) hx hb dX2_isKey_35 hl (by decide) rfl (fun ls hl => ?_)
      have lp_37 : ∀ (j i : Nat) (q : Bool) (ls : Array Slot), i + j = n → (q = true ↔ (n ≤ 6 ∧ (n = 6 ∨ keyC (6 * k + n) = 32) ∧ ∀ i', i' < i → keyC (6 * k + i') = mB z tp (f + i'))) → lv_has ls 5 [(0, .ref (t.2.1 1)), (1, .int ((nI k))), (2, .int ((nI n))), (3, .int ((b2i (q = true)))), (4, .int ((nI i)))] → W p l e (rmF 4) s m ([.ref (t.2.1 1), .int (nI k), .int (nI n)] : List Value).toArray below meth c s.heap [] 0 0 (MQ below (kR (some (.int (b2i (keyP (mB z tp) f n k))))) ([.ref (t.2.1 1), .int (nI k), .int (nI n)] : List Value).toArray s 0 0 (fun _ => False)) (F0 m 37 ls []) := by
        intro j
        induction j with
        | zero =>
          intro i q ls hkj he hl
          refine lv_iload hx hb dX2_isKey_37 (lv_at hl 4 rfl) ?_
          refine lv_iload_n hx hb dX2_isKey_39 rfl (lv_at hl 2 rfl) ?_
          refine kb_ge_n (tgt := 85) (a := i) (b := n) S rfl rfl (by omega) (by omega) dX2_isKey_40 (by decide) (fun c_40 => ?_) (fun c_40 => ?_)
          · skip
            refine lv_iload_n hx hb dX2_isKey_85 rfl (lv_at hl 3 rfl) ?_
            exact kk_zretR (ty := .boolean) S hr hlk rfl rfl (⟨fun h => by have g := he.mp h; exact ⟨g.1, g.2.1, fun i' hi' => g.2.2 i' (by omega)⟩, fun h => he.mpr ⟨h.1, h.2.1, fun i' hi' => h.2.2 i' (by omega)⟩⟩) dX2_isKey_86
          · exact absurd c_40 (by omega)
        | succ j ih =>
          intro i q ls hkj he hl
          have ih_37 := ih
          refine lv_iload hx hb dX2_isKey_37 (lv_at hl 4 rfl) ?_
          refine lv_iload_n hx hb dX2_isKey_39 rfl (lv_at hl 2 rfl) ?_
          refine kb_ge_n (tgt := 85) (a := i) (b := n) S rfl rfl (by omega) (by omega) dX2_isKey_40 (by decide) (fun c_40 => ?_) (fun c_40 => ?_)
          · exact absurd c_40 (by omega)
          · skip
            refine lv_iload_n hx hb dX2_isKey_43 rfl (lv_at hl 3 rfl) ?_
            refine kb_ifeq (tgt := 85) S dX2_isKey_44 (by decide) (fun c_44 => ?_) (fun c_44 => ?_)
            · skip
              refine lv_iload_n hx hb dX2_isKey_85 rfl (lv_at hl 3 rfl) ?_
              exact kk_zretR (ty := .boolean) S hr hlk rfl rfl (iff_of_false c_44 (fun h => c_44 (he.mpr ⟨h.1, h.2.1, fun i' hi' => h.2.2 i' (by omega)⟩))) dX2_isKey_86
            · skip
              refine va_ldcS hx hb hown hE.1 dX2_isKey_47 ?_
              refine lv_bipush (v := 6) hx hb dX2_isKey_49 (by decide) ?_
              refine lv_iload_n hx hb dX2_isKey_51 rfl (lv_at hl 1 rfl) ?_
              refine lv_imul hx hb dX2_isKey_52 ?_
              refine lv_iload hx hb dX2_isKey_53 (lv_at hl 4 rfl) ?_
              refine lv_iadd hx hb dX2_isKey_55 ?_
              refine kb_val (y := .int (nI ((6 * k) + i))) (congrArg Value.int (nn_add (nn_mul rfl rfl) rfl)) ?_
              refine jc_charAt S hE (rm_ok (Nat.le_of_ble_eq_true rfl)) hl.1 (i := ((6 * k) + i)) (by have := (he.mp c_44).1; omega) (Nat.le_of_ble_eq_true rfl) dX2_isKey_56 ?_
              refine lv_aload_n hx hb dX2_isKey_59 rfl (lv_at hl 0 rfl) ?_
              refine lv_aload_n hx hb dX2_isKey_60 rfl (lv_at hl 0 rfl) ?_
              refine rg_begin S hK hP dX2_isKey_61 ?_
              refine lv_iload hx hb dX2_isKey_64 (lv_at hl 4 rfl) ?_
              refine lv_iadd hx hb dX2_isKey_66 ?_
              refine rc_byteAt S hK hP (rm_ok (Nat.le_of_ble_eq_true rfl)) hl.1 ((f + i)) (tp) (z) hu0 h120 htz (by omega) (nn_add hf rfl) (Nat.le_of_ble_eq_true rfl) dX2_isKey_67 ?_
              refine lv_icmp_ne (tgt := 77) hx hb dX2_isKey_70 (by decide) (fun c_70 => ?_) (fun c_70 => ?_)
              · skip
                refine lv_iconst (v := 0) hx hb dX2_isKey_77 (by decide) ?_
                refine lv_istore_n (lv' := [(3, .int (0)), (0, .ref (t.2.1 1)), (1, .int ((nI k))), (2, .int ((nI n))), (4, .int ((nI i)))]) hx hb dX2_isKey_78 rfl hl (by decide) rfl (fun ls hl => ?_)
                refine lv_iinc (v := (nI (i + 1))) (lv' := [(4, .int ((nI (i + 1)))), (3, .int (0)), (0, .ref (t.2.1 1)), (1, .int ((nI k))), (2, .int ((nI n)))]) hx hb dX2_isKey_79 hl (k := 4) rfl (nn_1 rfl) (by decide) rfl (fun ls hl => ?_)
                refine lv_goto (tgt := 37) hx hb dX2_isKey_82 (by decide) ?_
                exact ih_37 ((i + 1)) false ls (by omega) (iff_of_false Bool.false_ne_true (fun h => c_70 (h.2.2 i (by omega)))) (lv_sub hl [2, 3, 4, 1, 0] rfl)
              · skip
                refine lv_iconst (v := 1) hx hb dX2_isKey_73 (by decide) ?_
                refine lv_goto (tgt := 78) hx hb dX2_isKey_74 (by decide) ?_
                refine lv_istore_n (lv' := [(3, .int (1)), (0, .ref (t.2.1 1)), (1, .int ((nI k))), (2, .int ((nI n))), (4, .int ((nI i)))]) hx hb dX2_isKey_78 rfl hl (by decide) rfl (fun ls hl => ?_)
                refine lv_iinc (v := (nI (i + 1))) (lv' := [(4, .int ((nI (i + 1)))), (3, .int (1)), (0, .ref (t.2.1 1)), (1, .int ((nI k))), (2, .int ((nI n)))]) hx hb dX2_isKey_79 hl (k := 4) rfl (nn_1 rfl) (by decide) rfl (fun ls hl => ?_)
                refine lv_goto (tgt := 37) hx hb dX2_isKey_82 (by decide) ?_
                exact ih_37 ((i + 1)) true ls (by omega) (iff_of_true rfl ⟨(he.mp c_44).1, (he.mp c_44).2.1, all_succ (he.mp c_44).2.2 c_70⟩) (lv_sub hl [2, 3, 4, 1, 0] rfl)
      exact lp_37 n 0 true ls (by omega) (iff_of_true rfl ⟨by omega, Or.inl c_9, fun _ h => absurd h (Nat.not_lt_zero _)⟩) (lv_sub hl [2, 3, 4, 1, 0] rfl)
    · skip
      refine va_ldcS hx hb hown hE.1 dX2_isKey_12 ?_
      refine lv_bipush (v := 6) hx hb dX2_isKey_14 (by decide) ?_
      refine lv_iload_n hx hb dX2_isKey_16 rfl (lv_at hl 1 rfl) ?_
      refine lv_imul hx hb dX2_isKey_17 ?_
      refine lv_iload_n hx hb dX2_isKey_18 rfl (lv_at hl 2 rfl) ?_
      refine lv_iadd hx hb dX2_isKey_19 ?_
      refine kb_val (y := .int (nI ((6 * k) + n))) (congrArg Value.int (nn_add (nn_mul rfl rfl) rfl)) ?_
      refine jc_charAt S hE (rm_ok (Nat.le_of_ble_eq_true rfl)) hl.1 (i := ((6 * k) + n)) (by omega) (Nat.le_of_ble_eq_true rfl) dX2_isKey_20 ?_
      refine lv_bipush (v := 32) hx hb dX2_isKey_23 (by decide) ?_
      refine lv_icmp_ne (tgt := 32) hx hb dX2_isKey_25 (by decide) (fun c_25 => ?_) (fun c_25 => ?_)
      · skip
        refine lv_iconst (v := 0) hx hb dX2_isKey_32 (by decide) ?_
        refine lv_istore_n (lv' := [(3, .int (0)), (0, .ref (t.2.1 1)), (1, .int ((nI k))), (2, .int ((nI n)))]) hx hb dX2_isKey_33 rfl hl (by decide) rfl (fun ls hl => ?_)
        refine lv_iconst (v := 0) hx hb dX2_isKey_34 (by decide) ?_
        refine lv_istore (lv' := [(4, .int (0)), (3, .int (0)), (0, .ref (t.2.1 1)), (1, .int ((nI k))), (2, .int ((nI n)))]) hx hb dX2_isKey_35 hl (by decide) rfl (fun ls hl => ?_)
        have lp_37 : ∀ (j i : Nat) (q : Bool) (ls : Array Slot), i + j = n → (q = true ↔ (n ≤ 6 ∧ (n = 6 ∨ keyC (6 * k + n) = 32) ∧ ∀ i', i' < i → keyC (6 * k + i') = mB z tp (f + i'))) → lv_has ls 5 [(0, .ref (t.2.1 1)), (1, .int ((nI k))), (2, .int ((nI n))), (3, .int ((b2i (q = true)))), (4, .int ((nI i)))] → W p l e (rmF 4) s m ([.ref (t.2.1 1), .int (nI k), .int (nI n)] : List Value).toArray below meth c s.heap [] 0 0 (MQ below (kR (some (.int (b2i (keyP (mB z tp) f n k))))) ([.ref (t.2.1 1), .int (nI k), .int (nI n)] : List Value).toArray s 0 0 (fun _ => False)) (F0 m 37 ls []) := by
          intro j
          induction j with
          | zero =>
            intro i q ls hkj he hl
            refine lv_iload hx hb dX2_isKey_37 (lv_at hl 4 rfl) ?_
            refine lv_iload_n hx hb dX2_isKey_39 rfl (lv_at hl 2 rfl) ?_
            refine kb_ge_n (tgt := 85) (a := i) (b := n) S rfl rfl (by omega) (by omega) dX2_isKey_40 (by decide) (fun c_40 => ?_) (fun c_40 => ?_)
            · skip
              refine lv_iload_n hx hb dX2_isKey_85 rfl (lv_at hl 3 rfl) ?_
              exact kk_zretR (ty := .boolean) S hr hlk rfl rfl (⟨fun h => by have g := he.mp h; exact ⟨g.1, g.2.1, fun i' hi' => g.2.2 i' (by omega)⟩, fun h => he.mpr ⟨h.1, h.2.1, fun i' hi' => h.2.2 i' (by omega)⟩⟩) dX2_isKey_86
            · exact absurd c_40 (by omega)
          | succ j ih =>
            intro i q ls hkj he hl
            have ih_37 := ih
            refine lv_iload hx hb dX2_isKey_37 (lv_at hl 4 rfl) ?_
            refine lv_iload_n hx hb dX2_isKey_39 rfl (lv_at hl 2 rfl) ?_
            refine kb_ge_n (tgt := 85) (a := i) (b := n) S rfl rfl (by omega) (by omega) dX2_isKey_40 (by decide) (fun c_40 => ?_) (fun c_40 => ?_)
            · exact absurd c_40 (by omega)
            · skip
              refine lv_iload_n hx hb dX2_isKey_43 rfl (lv_at hl 3 rfl) ?_
              refine kb_ifeq (tgt := 85) S dX2_isKey_44 (by decide) (fun c_44 => ?_) (fun c_44 => ?_)
              · skip
                refine lv_iload_n hx hb dX2_isKey_85 rfl (lv_at hl 3 rfl) ?_
                exact kk_zretR (ty := .boolean) S hr hlk rfl rfl (iff_of_false c_44 (fun h => c_44 (he.mpr ⟨h.1, h.2.1, fun i' hi' => h.2.2 i' (by omega)⟩))) dX2_isKey_86
              · skip
                refine va_ldcS hx hb hown hE.1 dX2_isKey_47 ?_
                refine lv_bipush (v := 6) hx hb dX2_isKey_49 (by decide) ?_
                refine lv_iload_n hx hb dX2_isKey_51 rfl (lv_at hl 1 rfl) ?_
                refine lv_imul hx hb dX2_isKey_52 ?_
                refine lv_iload hx hb dX2_isKey_53 (lv_at hl 4 rfl) ?_
                refine lv_iadd hx hb dX2_isKey_55 ?_
                refine kb_val (y := .int (nI ((6 * k) + i))) (congrArg Value.int (nn_add (nn_mul rfl rfl) rfl)) ?_
                refine jc_charAt S hE (rm_ok (Nat.le_of_ble_eq_true rfl)) hl.1 (i := ((6 * k) + i)) (by have := (he.mp c_44).1; omega) (Nat.le_of_ble_eq_true rfl) dX2_isKey_56 ?_
                refine lv_aload_n hx hb dX2_isKey_59 rfl (lv_at hl 0 rfl) ?_
                refine lv_aload_n hx hb dX2_isKey_60 rfl (lv_at hl 0 rfl) ?_
                refine rg_begin S hK hP dX2_isKey_61 ?_
                refine lv_iload hx hb dX2_isKey_64 (lv_at hl 4 rfl) ?_
                refine lv_iadd hx hb dX2_isKey_66 ?_
                refine rc_byteAt S hK hP (rm_ok (Nat.le_of_ble_eq_true rfl)) hl.1 ((f + i)) (tp) (z) hu0 h120 htz (by omega) (nn_add hf rfl) (Nat.le_of_ble_eq_true rfl) dX2_isKey_67 ?_
                refine lv_icmp_ne (tgt := 77) hx hb dX2_isKey_70 (by decide) (fun c_70 => ?_) (fun c_70 => ?_)
                · skip
                  refine lv_iconst (v := 0) hx hb dX2_isKey_77 (by decide) ?_
                  refine lv_istore_n (lv' := [(3, .int (0)), (0, .ref (t.2.1 1)), (1, .int ((nI k))), (2, .int ((nI n))), (4, .int ((nI i)))]) hx hb dX2_isKey_78 rfl hl (by decide) rfl (fun ls hl => ?_)
                  refine lv_iinc (v := (nI (i + 1))) (lv' := [(4, .int ((nI (i + 1)))), (3, .int (0)), (0, .ref (t.2.1 1)), (1, .int ((nI k))), (2, .int ((nI n)))]) hx hb dX2_isKey_79 hl (k := 4) rfl (nn_1 rfl) (by decide) rfl (fun ls hl => ?_)
                  refine lv_goto (tgt := 37) hx hb dX2_isKey_82 (by decide) ?_
                  exact ih_37 ((i + 1)) false ls (by omega) (iff_of_false Bool.false_ne_true (fun h => c_70 (h.2.2 i (by omega)))) (lv_sub hl [2, 3, 4, 1, 0] rfl)
                · skip
                  refine lv_iconst (v := 1) hx hb dX2_isKey_73 (by decide) ?_
                  refine lv_goto (tgt := 78) hx hb dX2_isKey_74 (by decide) ?_
                  refine lv_istore_n (lv' := [(3, .int (1)), (0, .ref (t.2.1 1)), (1, .int ((nI k))), (2, .int ((nI n))), (4, .int ((nI i)))]) hx hb dX2_isKey_78 rfl hl (by decide) rfl (fun ls hl => ?_)
                  refine lv_iinc (v := (nI (i + 1))) (lv' := [(4, .int ((nI (i + 1)))), (3, .int (1)), (0, .ref (t.2.1 1)), (1, .int ((nI k))), (2, .int ((nI n)))]) hx hb dX2_isKey_79 hl (k := 4) rfl (nn_1 rfl) (by decide) rfl (fun ls hl => ?_)
                  refine lv_goto (tgt := 37) hx hb dX2_isKey_82 (by decide) ?_
                  exact ih_37 ((i + 1)) true ls (by omega) (iff_of_true rfl ⟨(he.mp c_44).1, (he.mp c_44).2.1, all_succ (he.mp c_44).2.2 c_70⟩) (lv_sub hl [2, 3, 4, 1, 0] rfl)
        exact lp_37 n 0 false ls (by omega) (iff_of_false Bool.false_ne_true (fun h => h.2.1.elim c_9 c_25)) (lv_sub hl [2, 3, 4, 1, 0] rfl)
      · skip
        refine lv_iconst (v := 1) hx hb dX2_isKey_28 (by decide) ?_
        refine lv_goto (tgt := 33) hx hb dX2_isKey_29 (by decide) ?_
        refine lv_istore_n (lv' := [(3, .int (1)), (0, .ref (t.2.1 1)), (1, .int ((nI k))), (2, .int ((nI n)))]) hx hb dX2_isKey_33 rfl hl (by decide) rfl (fun ls hl => ?_)
        refine lv_iconst (v := 0) hx hb dX2_isKey_34 (by decide) ?_
        refine lv_istore (lv' := [(4, .int (0)), (3, .int (1)), (0, .ref (t.2.1 1)), (1, .int ((nI k))), (2, .int ((nI n)))]) hx hb dX2_isKey_35 hl (by decide) rfl (fun ls hl => ?_)
        have lp_37 : ∀ (j i : Nat) (q : Bool) (ls : Array Slot), i + j = n → (q = true ↔ (n ≤ 6 ∧ (n = 6 ∨ keyC (6 * k + n) = 32) ∧ ∀ i', i' < i → keyC (6 * k + i') = mB z tp (f + i'))) → lv_has ls 5 [(0, .ref (t.2.1 1)), (1, .int ((nI k))), (2, .int ((nI n))), (3, .int ((b2i (q = true)))), (4, .int ((nI i)))] → W p l e (rmF 4) s m ([.ref (t.2.1 1), .int (nI k), .int (nI n)] : List Value).toArray below meth c s.heap [] 0 0 (MQ below (kR (some (.int (b2i (keyP (mB z tp) f n k))))) ([.ref (t.2.1 1), .int (nI k), .int (nI n)] : List Value).toArray s 0 0 (fun _ => False)) (F0 m 37 ls []) := by
          intro j
          induction j with
          | zero =>
            intro i q ls hkj he hl
            refine lv_iload hx hb dX2_isKey_37 (lv_at hl 4 rfl) ?_
            refine lv_iload_n hx hb dX2_isKey_39 rfl (lv_at hl 2 rfl) ?_
            refine kb_ge_n (tgt := 85) (a := i) (b := n) S rfl rfl (by omega) (by omega) dX2_isKey_40 (by decide) (fun c_40 => ?_) (fun c_40 => ?_)
            · skip
              refine lv_iload_n hx hb dX2_isKey_85 rfl (lv_at hl 3 rfl) ?_
              exact kk_zretR (ty := .boolean) S hr hlk rfl rfl (⟨fun h => by have g := he.mp h; exact ⟨g.1, g.2.1, fun i' hi' => g.2.2 i' (by omega)⟩, fun h => he.mpr ⟨h.1, h.2.1, fun i' hi' => h.2.2 i' (by omega)⟩⟩) dX2_isKey_86
            · exact absurd c_40 (by omega)
          | succ j ih =>
            intro i q ls hkj he hl
            have ih_37 := ih
            refine lv_iload hx hb dX2_isKey_37 (lv_at hl 4 rfl) ?_
            refine lv_iload_n hx hb dX2_isKey_39 rfl (lv_at hl 2 rfl) ?_
            refine kb_ge_n (tgt := 85) (a := i) (b := n) S rfl rfl (by omega) (by omega) dX2_isKey_40 (by decide) (fun c_40 => ?_) (fun c_40 => ?_)
            · exact absurd c_40 (by omega)
            · skip
              refine lv_iload_n hx hb dX2_isKey_43 rfl (lv_at hl 3 rfl) ?_
              refine kb_ifeq (tgt := 85) S dX2_isKey_44 (by decide) (fun c_44 => ?_) (fun c_44 => ?_)
              · skip
                refine lv_iload_n hx hb dX2_isKey_85 rfl (lv_at hl 3 rfl) ?_
                exact kk_zretR (ty := .boolean) S hr hlk rfl rfl (iff_of_false c_44 (fun h => c_44 (he.mpr ⟨h.1, h.2.1, fun i' hi' => h.2.2 i' (by omega)⟩))) dX2_isKey_86
              · skip
                refine va_ldcS hx hb hown hE.1 dX2_isKey_47 ?_
                refine lv_bipush (v := 6) hx hb dX2_isKey_49 (by decide) ?_
                refine lv_iload_n hx hb dX2_isKey_51 rfl (lv_at hl 1 rfl) ?_
                refine lv_imul hx hb dX2_isKey_52 ?_
                refine lv_iload hx hb dX2_isKey_53 (lv_at hl 4 rfl) ?_
                refine lv_iadd hx hb dX2_isKey_55 ?_
                refine kb_val (y := .int (nI ((6 * k) + i))) (congrArg Value.int (nn_add (nn_mul rfl rfl) rfl)) ?_
                refine jc_charAt S hE (rm_ok (Nat.le_of_ble_eq_true rfl)) hl.1 (i := ((6 * k) + i)) (by have := (he.mp c_44).1; omega) (Nat.le_of_ble_eq_true rfl) dX2_isKey_56 ?_
                refine lv_aload_n hx hb dX2_isKey_59 rfl (lv_at hl 0 rfl) ?_
                refine lv_aload_n hx hb dX2_isKey_60 rfl (lv_at hl 0 rfl) ?_
                refine rg_begin S hK hP dX2_isKey_61 ?_
                refine lv_iload hx hb dX2_isKey_64 (lv_at hl 4 rfl) ?_
                refine lv_iadd hx hb dX2_isKey_66 ?_
                refine rc_byteAt S hK hP (rm_ok (Nat.le_of_ble_eq_true rfl)) hl.1 ((f + i)) (tp) (z) hu0 h120 htz (by omega) (nn_add hf rfl) (Nat.le_of_ble_eq_true rfl) dX2_isKey_67 ?_
                refine lv_icmp_ne (tgt := 77) hx hb dX2_isKey_70 (by decide) (fun c_70 => ?_) (fun c_70 => ?_)
                · skip
                  refine lv_iconst (v := 0) hx hb dX2_isKey_77 (by decide) ?_
                  refine lv_istore_n (lv' := [(3, .int (0)), (0, .ref (t.2.1 1)), (1, .int ((nI k))), (2, .int ((nI n))), (4, .int ((nI i)))]) hx hb dX2_isKey_78 rfl hl (by decide) rfl (fun ls hl => ?_)
                  refine lv_iinc (v := (nI (i + 1))) (lv' := [(4, .int ((nI (i + 1)))), (3, .int (0)), (0, .ref (t.2.1 1)), (1, .int ((nI k))), (2, .int ((nI n)))]) hx hb dX2_isKey_79 hl (k := 4) rfl (nn_1 rfl) (by decide) rfl (fun ls hl => ?_)
                  refine lv_goto (tgt := 37) hx hb dX2_isKey_82 (by decide) ?_
                  exact ih_37 ((i + 1)) false ls (by omega) (iff_of_false Bool.false_ne_true (fun h => c_70 (h.2.2 i (by omega)))) (lv_sub hl [2, 3, 4, 1, 0] rfl)
                · skip
                  refine lv_iconst (v := 1) hx hb dX2_isKey_73 (by decide) ?_
                  refine lv_goto (tgt := 78) hx hb dX2_isKey_74 (by decide) ?_
                  refine lv_istore_n (lv' := [(3, .int (1)), (0, .ref (t.2.1 1)), (1, .int ((nI k))), (2, .int ((nI n))), (4, .int ((nI i)))]) hx hb dX2_isKey_78 rfl hl (by decide) rfl (fun ls hl => ?_)
                  refine lv_iinc (v := (nI (i + 1))) (lv' := [(4, .int ((nI (i + 1)))), (3, .int (1)), (0, .ref (t.2.1 1)), (1, .int ((nI k))), (2, .int ((nI n)))]) hx hb dX2_isKey_79 hl (k := 4) rfl (nn_1 rfl) (by decide) rfl (fun ls hl => ?_)
                  refine lv_goto (tgt := 37) hx hb dX2_isKey_82 (by decide) ?_
                  exact ih_37 ((i + 1)) true ls (by omega) (iff_of_true rfl ⟨(he.mp c_44).1, (he.mp c_44).2.1, all_succ (he.mp c_44).2.2 c_70⟩) (lv_sub hl [2, 3, 4, 1, 0] rfl)
        exact lp_37 n 0 true ls (by omega) (iff_of_true rfl ⟨by omega, Or.inr c_25, fun _ h => absurd h (Nat.not_lt_zero _)⟩) (lv_sub hl [2, 3, 4, 1, 0] rfl)
section CC
variable {p : Program} {l : Launch} {e : Env} {R : Room} {s : State} {m : MethodId} {args : Array Value} {below : List Frame} {meth : Method} {c : Code} {H H0 : Heap} {locs : List Loc} {cells slots : Nat} {Q : State → Prop}
variable {cc : ByteArray} {pc nL : Nat} {ls : Array Slot} {rest : List Value} {t : CT} {r : Rw} {x : Nat → Rw}
theorem rc_isKey {κ : Nat × Nat × Nat} (S : CallFix p m c cc nL s args lw_all RX2) (hK : cK t s) (hP : cX t r x H) (hE : kS κ s H) (hA : ∀ q, cA t q → κ.2.2 ≤ q) (hR : kRm R 5 cells slots) (hsz : ls.size = nL) (k : Nat) (n : Nat) (tp : Nat) (z : Nat → Rw) (f : Nat) (hu0 : x 10 0 = nI tp) (h120 : tp ≤ 120) (htz : tpe z x) (hk : k < 13) (hn : n ≤ 120) (hf : x 10 2 = nI f) (hfn : f + n ≤ 120) {i0 : Int32} (e0 : i0 = nI k) {i1 : Int32} (e1 : i1 = nI n) (hrest : (rest.map fun v => v.category).sum ≤ 8) (hdg : decode cc pc = .ok (.invokevirtual 70, 3)) (kk : W p l e R s m args below meth c H locs cells slots Q (F0 m (pc + 3) ls (.int (b2i (keyP (mB z tp) f n k)) :: rest))) : W p l e R s m args below meth c H locs cells slots Q (F0 m pc ls (.int i1 :: .int i0 :: .ref (t.2.1 1) :: rest)) := by
  subst e0
  subst e1
  exact kk_Ri (W.runV (As := [.int (nI k), .int (nI n)]) (rest := rest) S (k2_isKey l t r x κ hA k n tp z f hu0 h120 htz hk hn hf hfn) (cwV 2 S.2.2.2.2 (lw_V q1042 q1044 qs41 q106 q1045) rfl rfl rfl (by decide +kernel) ⟨hR.1, by have := hR.2.1; show 8 + (5 + 11) + 38 * 4 ≤ R.locals; omega⟩) ⟨sR_blind, c_recvR hK hP, sR_pre hK hP hE⟩ rfl rfl hsz rfl (lv_room hrest) hdg ⟨hR.2.2.1, hR.2.2.2⟩) kk
end CC
set_option maxHeartbeats 4000000 in
set_option maxRecDepth 100000 in
theorem k2_word (l : Launch) (t : CT) (r : Rw) (x : Nat → Rw) (κ : Nat × Nat × Nat) (hA : ∀ q, cA t q → κ.2.2 ≤ q) (tp : Nat) (z : Nat → Rw) (f : Nat) (hpi : PI tp z) (hu0 : x 10 0 = nI tp) (htz : tpe z x) (hf0 : f = q_sk (mB z tp) 121 (toN z)) (htok : q_tok ((mB z tp) f) = 1) (hat : x 10 1 = nI f) (hbg : x 10 2 = nI f) : MetX l yX2_word (ws_ yX2_word cX2_word 2 none) (rmF 5) (va_Pc [.ref (t.2.1 1)] (fun U => cK t U ∧ cX t r x U.heap ∧ kS κ U U.heap)) (kP t r x tp (true, x 2, q_next tp z) none) 0 0 (cA t) := by
  refine kk_startX (by decide) (Nat.le_of_ble_eq_true rfl) ?_
  intro p e s m below meth c S hr hlk hin hB ls hl
  obtain ⟨hK, hP⟩ := hB
  have hx := S.1
  have hb := S.2.1
  have hown : s.vm.findClass RX2 = some m.cls := S.2.2.2.1
  have hts := S.2.2.2.2
  have hS : va_S (cA t) s.heap s.heap [] := va_S.rf
  have hl : lv_has ls 2 [(0, .ref (t.2.1 1))] := hl
  obtain ⟨hP, hE⟩ := hP
  have h120 := hpi.2.1
  have hftp := (nx_n hpi hf0).1
  rw [← RT_in x, hat, hbg] at hP
  have lp_0 : ∀ (j : Nat) (q : Nat) (H : Heap) (locs : List Loc) (ls : Array Slot), (tp < q + j) → (q_wl (mB z tp) j q = q_wl (mB z tp) 121 f) → (q ≤ tp) → cX t (r) ((RT x (nI q) (nI f) (x 10 3) (x 10 4))) H → va_S (cA t) s.heap H locs → lv_has ls 2 [(0, .ref (t.2.1 1))] → W p l e (rmF 5) s m ([.ref (t.2.1 1)] : List Value).toArray below meth c H locs 0 0 (MQX below (kP t r x tp (true, x 2, q_next tp z) none) ([.ref (t.2.1 1)] : List Value).toArray s 0 0 (cA t)) (F0 m 0 ls []) := by
    intro j
    induction j with
    | zero =>
      intro q H locs ls hkj he hq hP hS hl
      refine lv_aload_n hx hb dX2_word_0 rfl (lv_at hl 0 rfl) ?_
      refine lv_aload_n hx hb dX2_word_1 rfl (lv_at hl 0 rfl) ?_
      refine rg_at S hK hP dX2_word_2 ?_
      refine kb_val (y := .int (nI q)) rfl ?_
      refine rc_byteAt S hK hP (rm_ok (Nat.le_of_ble_eq_true rfl)) hl.1 (q) (tp) (z) hu0 h120 htz (by omega) rfl (Nat.le_of_ble_eq_true rfl) dX2_word_5 ?_
      refine rc_isLetter S hK hP (rm_ok (Nat.le_of_ble_eq_true rfl)) hl.1 (Nat.le_of_ble_eq_true rfl) dX2_word_8 ?_
      refine kb_ifeq (tgt := 27) S dX2_word_11 (by decide) (fun c_11 => ?_) (fun c_11 => ?_)
      · skip
        have hres : q = q_wl (mB z tp) 121 f := he
        have hqf : f ≤ q := by rw [hres]; exact q_wl_ge _ _
        have hlt : ∀ i, i < q - f → ltr (mB z tp (f + i)) := fun i hi => q_wl_ltr 121 f i (by rw [← hres]; exact hi)
        refine lv_iconst (v := 0) hx hb dX2_word_27 (by decide) ?_
        refine lv_istore_n (lv' := [(1, .int (0)), (0, .ref (t.2.1 1))]) hx hb dX2_word_28 rfl hl (by decide) rfl (fun ls hl => ?_)
        have lp_29 : ∀ (j k : Nat) (H : Heap) (locs : List Loc) (ls : Array Slot), k + j = 13 → (∀ i, i < k → ¬ keyX (mB z tp) f (q - f) i) → cX t (r) ((RT x (nI q) (nI f) (x 10 3) (x 10 4))) H → va_S (cA t) s.heap H locs → lv_has ls 2 [(0, .ref (t.2.1 1)), (1, .int ((nI k)))] → W p l e (rmF 5) s m ([.ref (t.2.1 1)] : List Value).toArray below meth c H locs 0 0 (MQX below (kP t r x tp (true, x 2, q_next tp z) none) ([.ref (t.2.1 1)] : List Value).toArray s 0 0 (cA t)) (F0 m 29 ls []) := by
          intro j
          induction j with
          | zero =>
            intro k  H locs ls hkj hnk hP hS hl
            refine lv_iload_n hx hb dX2_word_29 rfl (lv_at hl 1 rfl) ?_
            refine lv_bipush (v := 13) hx hb dX2_word_30 (by decide) ?_
            refine kb_ge_n (tgt := 58) (a := k) (b := 13) S rfl rfl (by omega) (by omega) dX2_word_32 (by decide) (fun c_32 => ?_) (fun c_32 => ?_)
            · skip
              refine lv_aload_n hx hb dX2_word_58 rfl (lv_at hl 0 rfl) ?_
              refine lv_iload_n hx hb dX2_word_59 rfl (lv_at hl 1 rfl) ?_
              refine lv_bipush (v := 13) hx hb dX2_word_60 (by decide) ?_
              refine kb_ge_n (tgt := 69) (a := k) (b := 13) S rfl rfl (by omega) (by omega) dX2_word_62 (by decide) (fun c_62 => ?_) (fun c_62 => ?_)
              · skip
                refine lv_iconst (v := 0) hx hb dX2_word_69 (by decide) ?_
                refine rc_need0 S hK hP hS (rm_ok (Nat.le_of_ble_eq_true rfl)) hl.1 (Nat.le_of_ble_eq_true rfl) dX2_word_70 (fun H locs hP hS => ?_)
                have hng := nogood_w hpi hf0 htok hres (fun i hi => hnk i (by omega))
                exact kp_out (o := (true, x 2, q_next tp z)) hin hlk hS (fun z => hng z.2) (xR.rt x _ _ _ _) (nx_all hf0).2.1.symm hP
              · exact absurd c_62 (by omega)
            · exact absurd c_32 (by omega)
          | succ j ih =>
            intro k  H locs ls hkj hnk hP hS hl
            have ih_29 := ih
            refine lv_iload_n hx hb dX2_word_29 rfl (lv_at hl 1 rfl) ?_
            refine lv_bipush (v := 13) hx hb dX2_word_30 (by decide) ?_
            refine kb_ge_n (tgt := 58) (a := k) (b := 13) S rfl rfl (by omega) (by omega) dX2_word_32 (by decide) (fun c_32 => ?_) (fun c_32 => ?_)
            · exact absurd c_32 (by omega)
            · skip
              refine lv_aload_n hx hb dX2_word_35 rfl (lv_at hl 0 rfl) ?_
              refine lv_iload_n hx hb dX2_word_36 rfl (lv_at hl 1 rfl) ?_
              refine lv_aload_n hx hb dX2_word_37 rfl (lv_at hl 0 rfl) ?_
              refine rg_at S hK hP dX2_word_38 ?_
              refine kb_val (y := .int (nI q)) rfl ?_
              refine lv_aload_n hx hb dX2_word_41 rfl (lv_at hl 0 rfl) ?_
              refine rg_begin S hK hP dX2_word_42 ?_
              refine kb_val (y := .int (nI f)) rfl ?_
              refine lv_isub hx hb dX2_word_45 ?_
              refine rc_isKey S hK hP (hE.keep hA hS) hA (rm_ok (Nat.le_of_ble_eq_true rfl)) hl.1 (k) ((q - f)) (tp) (z) (f) hu0 h120 htz (by omega) (by omega) rfl (by omega) rfl (nn_sub rfl rfl (by omega)) (Nat.le_of_ble_eq_true rfl) dX2_word_46 ?_
              refine kb_ifne (tgt := 58) S dX2_word_49 (by decide) (fun c_49 => ?_) (fun c_49 => ?_)
              · skip
                refine lv_aload_n hx hb dX2_word_58 rfl (lv_at hl 0 rfl) ?_
                refine lv_iload_n hx hb dX2_word_59 rfl (lv_at hl 1 rfl) ?_
                refine lv_bipush (v := 13) hx hb dX2_word_60 (by decide) ?_
                refine kb_ge_n (tgt := 69) (a := k) (b := 13) S rfl rfl (by omega) (by omega) dX2_word_62 (by decide) (fun c_62 => ?_) (fun c_62 => ?_)
                · exact absurd c_62 (by omega)
                · skip
                  refine lv_iconst (v := 1) hx hb dX2_word_65 (by decide) ?_
                  refine lv_goto (tgt := 70) hx hb dX2_word_66 (by decide) ?_
                  refine rc_need1 S hK hP hS (rm_ok (Nat.le_of_ble_eq_true rfl)) hl.1 (Nat.le_of_ble_eq_true rfl) dX2_word_70 (fun H locs hP hS => ?_)
                  refine lv_aload_n hx hb dX2_word_73 rfl (lv_at hl 0 rfl) ?_
                  refine lv_iconst (v := 2) hx hb dX2_word_74 (by decide) ?_
                  refine rp_token S hK hP hS (fun _ h => h) dX2_word_75 (fun H locs hP hS => ?_)
                  rw [RT_3] at hP
                  refine lv_aload_n hx hb dX2_word_78 rfl (lv_at hl 0 rfl) ?_
                  refine lv_iload_n hx hb dX2_word_79 rfl (lv_at hl 1 rfl) ?_
                  refine rp_value S hK hP hS (fun _ h => h) dX2_word_80 (fun H locs hP hS => ?_)
                  rw [RT_4] at hP
                  have hrd := rd_w (u := (RT x (nI q) (nI f) 2 (nI k)) 10) hpi hf0 htok hres (by omega) ((keyP_X (by omega) hlt).mp c_49) hu0 rfl rfl rfl rfl
                  exact kp_vret (o := (true, x 2, q_next tp z)) S hr hlk hS ⟨rfl, hrd.good⟩ (xR.rt x _ _ _ _) hrd rfl hP dX2_word_83
              · skip
                refine lv_iinc (v := (nI (k + 1))) (lv' := [(1, .int ((nI (k + 1)))), (0, .ref (t.2.1 1))]) hx hb dX2_word_52 hl (k := 1) rfl (nn_1 rfl) (by decide) rfl (fun ls hl => ?_)
                refine lv_goto (tgt := 29) hx hb dX2_word_55 (by decide) ?_
                exact ih_29 ((k + 1)) _ _ ls (by omega) (all_succ hnk (fun z => c_49 ((keyP_X (by omega) hlt).mpr z))) hP hS (lv_sub hl [1, 0] rfl)
        exact lp_29 13 0 _ _ ls (by omega) (fun _ h => absurd h (Nat.not_lt_zero _)) hP hS (lv_sub hl [1, 0] rfl)
      · exact absurd (show ltr (mB z tp q) from c_11) (by rw [mB_out (by omega)]; decide)
    | succ j ih =>
      intro q H locs ls hkj he hq hP hS hl
      have ih_0 := ih
      refine lv_aload_n hx hb dX2_word_0 rfl (lv_at hl 0 rfl) ?_
      refine lv_aload_n hx hb dX2_word_1 rfl (lv_at hl 0 rfl) ?_
      refine rg_at S hK hP dX2_word_2 ?_
      refine kb_val (y := .int (nI q)) rfl ?_
      refine rc_byteAt S hK hP (rm_ok (Nat.le_of_ble_eq_true rfl)) hl.1 (q) (tp) (z) hu0 h120 htz (by omega) rfl (Nat.le_of_ble_eq_true rfl) dX2_word_5 ?_
      refine rc_isLetter S hK hP (rm_ok (Nat.le_of_ble_eq_true rfl)) hl.1 (Nat.le_of_ble_eq_true rfl) dX2_word_8 ?_
      refine kb_ifeq (tgt := 27) S dX2_word_11 (by decide) (fun c_11 => ?_) (fun c_11 => ?_)
      · skip
        have hres : q = q_wl (mB z tp) 121 f := by (have h := he; rw [q_wl, if_neg (show ¬ ltr (mB z tp q) from c_11)] at h; exact h)
        have hqf : f ≤ q := by rw [hres]; exact q_wl_ge _ _
        have hlt : ∀ i, i < q - f → ltr (mB z tp (f + i)) := fun i hi => q_wl_ltr 121 f i (by rw [← hres]; exact hi)
        refine lv_iconst (v := 0) hx hb dX2_word_27 (by decide) ?_
        refine lv_istore_n (lv' := [(1, .int (0)), (0, .ref (t.2.1 1))]) hx hb dX2_word_28 rfl hl (by decide) rfl (fun ls hl => ?_)
        have lp_29 : ∀ (j k : Nat) (H : Heap) (locs : List Loc) (ls : Array Slot), k + j = 13 → (∀ i, i < k → ¬ keyX (mB z tp) f (q - f) i) → cX t (r) ((RT x (nI q) (nI f) (x 10 3) (x 10 4))) H → va_S (cA t) s.heap H locs → lv_has ls 2 [(0, .ref (t.2.1 1)), (1, .int ((nI k)))] → W p l e (rmF 5) s m ([.ref (t.2.1 1)] : List Value).toArray below meth c H locs 0 0 (MQX below (kP t r x tp (true, x 2, q_next tp z) none) ([.ref (t.2.1 1)] : List Value).toArray s 0 0 (cA t)) (F0 m 29 ls []) := by
          intro j
          induction j with
          | zero =>
            intro k  H locs ls hkj hnk hP hS hl
            refine lv_iload_n hx hb dX2_word_29 rfl (lv_at hl 1 rfl) ?_
            refine lv_bipush (v := 13) hx hb dX2_word_30 (by decide) ?_
            refine kb_ge_n (tgt := 58) (a := k) (b := 13) S rfl rfl (by omega) (by omega) dX2_word_32 (by decide) (fun c_32 => ?_) (fun c_32 => ?_)
            · skip
              refine lv_aload_n hx hb dX2_word_58 rfl (lv_at hl 0 rfl) ?_
              refine lv_iload_n hx hb dX2_word_59 rfl (lv_at hl 1 rfl) ?_
              refine lv_bipush (v := 13) hx hb dX2_word_60 (by decide) ?_
              refine kb_ge_n (tgt := 69) (a := k) (b := 13) S rfl rfl (by omega) (by omega) dX2_word_62 (by decide) (fun c_62 => ?_) (fun c_62 => ?_)
              · skip
                refine lv_iconst (v := 0) hx hb dX2_word_69 (by decide) ?_
                refine rc_need0 S hK hP hS (rm_ok (Nat.le_of_ble_eq_true rfl)) hl.1 (Nat.le_of_ble_eq_true rfl) dX2_word_70 (fun H locs hP hS => ?_)
                have hng := nogood_w hpi hf0 htok hres (fun i hi => hnk i (by omega))
                exact kp_out (o := (true, x 2, q_next tp z)) hin hlk hS (fun z => hng z.2) (xR.rt x _ _ _ _) (nx_all hf0).2.1.symm hP
              · exact absurd c_62 (by omega)
            · exact absurd c_32 (by omega)
          | succ j ih =>
            intro k  H locs ls hkj hnk hP hS hl
            have ih_29 := ih
            refine lv_iload_n hx hb dX2_word_29 rfl (lv_at hl 1 rfl) ?_
            refine lv_bipush (v := 13) hx hb dX2_word_30 (by decide) ?_
            refine kb_ge_n (tgt := 58) (a := k) (b := 13) S rfl rfl (by omega) (by omega) dX2_word_32 (by decide) (fun c_32 => ?_) (fun c_32 => ?_)
            · exact absurd c_32 (by omega)
            · skip
              refine lv_aload_n hx hb dX2_word_35 rfl (lv_at hl 0 rfl) ?_
              refine lv_iload_n hx hb dX2_word_36 rfl (lv_at hl 1 rfl) ?_
              refine lv_aload_n hx hb dX2_word_37 rfl (lv_at hl 0 rfl) ?_
              refine rg_at S hK hP dX2_word_38 ?_
              refine kb_val (y := .int (nI q)) rfl ?_
              refine lv_aload_n hx hb dX2_word_41 rfl (lv_at hl 0 rfl) ?_
              refine rg_begin S hK hP dX2_word_42 ?_
              refine kb_val (y := .int (nI f)) rfl ?_
              refine lv_isub hx hb dX2_word_45 ?_
              refine rc_isKey S hK hP (hE.keep hA hS) hA (rm_ok (Nat.le_of_ble_eq_true rfl)) hl.1 (k) ((q - f)) (tp) (z) (f) hu0 h120 htz (by omega) (by omega) rfl (by omega) rfl (nn_sub rfl rfl (by omega)) (Nat.le_of_ble_eq_true rfl) dX2_word_46 ?_
              refine kb_ifne (tgt := 58) S dX2_word_49 (by decide) (fun c_49 => ?_) (fun c_49 => ?_)
              · skip
                refine lv_aload_n hx hb dX2_word_58 rfl (lv_at hl 0 rfl) ?_
                refine lv_iload_n hx hb dX2_word_59 rfl (lv_at hl 1 rfl) ?_
                refine lv_bipush (v := 13) hx hb dX2_word_60 (by decide) ?_
                refine kb_ge_n (tgt := 69) (a := k) (b := 13) S rfl rfl (by omega) (by omega) dX2_word_62 (by decide) (fun c_62 => ?_) (fun c_62 => ?_)
                · exact absurd c_62 (by omega)
                · skip
                  refine lv_iconst (v := 1) hx hb dX2_word_65 (by decide) ?_
                  refine lv_goto (tgt := 70) hx hb dX2_word_66 (by decide) ?_
                  refine rc_need1 S hK hP hS (rm_ok (Nat.le_of_ble_eq_true rfl)) hl.1 (Nat.le_of_ble_eq_true rfl) dX2_word_70 (fun H locs hP hS => ?_)
                  refine lv_aload_n hx hb dX2_word_73 rfl (lv_at hl 0 rfl) ?_
                  refine lv_iconst (v := 2) hx hb dX2_word_74 (by decide) ?_
                  refine rp_token S hK hP hS (fun _ h => h) dX2_word_75 (fun H locs hP hS => ?_)
                  rw [RT_3] at hP
                  refine lv_aload_n hx hb dX2_word_78 rfl (lv_at hl 0 rfl) ?_
                  refine lv_iload_n hx hb dX2_word_79 rfl (lv_at hl 1 rfl) ?_
                  refine rp_value S hK hP hS (fun _ h => h) dX2_word_80 (fun H locs hP hS => ?_)
                  rw [RT_4] at hP
                  have hrd := rd_w (u := (RT x (nI q) (nI f) 2 (nI k)) 10) hpi hf0 htok hres (by omega) ((keyP_X (by omega) hlt).mp c_49) hu0 rfl rfl rfl rfl
                  exact kp_vret (o := (true, x 2, q_next tp z)) S hr hlk hS ⟨rfl, hrd.good⟩ (xR.rt x _ _ _ _) hrd rfl hP dX2_word_83
              · skip
                refine lv_iinc (v := (nI (k + 1))) (lv' := [(1, .int ((nI (k + 1)))), (0, .ref (t.2.1 1))]) hx hb dX2_word_52 hl (k := 1) rfl (nn_1 rfl) (by decide) rfl (fun ls hl => ?_)
                refine lv_goto (tgt := 29) hx hb dX2_word_55 (by decide) ?_
                exact ih_29 ((k + 1)) _ _ ls (by omega) (all_succ hnk (fun z => c_49 ((keyP_X (by omega) hlt).mpr z))) hP hS (lv_sub hl [1, 0] rfl)
        exact lp_29 13 0 _ _ ls (by omega) (fun _ h => absurd h (Nat.not_lt_zero _)) hP hS (lv_sub hl [1, 0] rfl)
      · skip
        refine lv_aload_n hx hb dX2_word_14 rfl (lv_at hl 0 rfl) ?_
        refine lv_dup hx hb dX2_word_15 rfl ?_
        refine rg_at S hK hP dX2_word_16 ?_
        refine kb_val (y := .int (nI q)) rfl ?_
        refine lv_iconst (v := 1) hx hb dX2_word_19 (by decide) ?_
        refine lv_iadd hx hb dX2_word_20 ?_
        refine kb_nat (y := nI ((q + 1))) (nn_add rfl rfl) ?_
        refine rp_at S hK hP hS (fun _ h => h) dX2_word_21 (fun H locs hP hS => ?_)
        rw [RT_1] at hP
        refine lv_goto (tgt := 0) hx hb dX2_word_24 (by decide) ?_
        exact ih_0  (q + 1) _ _ ls (by omega) (by have h := he; rw [q_wl, if_pos (show ltr (mB z tp q) from c_11)] at h; exact h) (mB_lt (Int32.le_trans (by decide) c_11.1)) hP hS (lv_sub hl [0] rfl)
  exact lp_0 121 f _ _ ls (by omega) (rfl) (hftp) hP hS (lv_sub hl [0] rfl)
set_option maxHeartbeats 4000000 in
set_option maxRecDepth 100000 in
theorem k2_digits (l : Launch) (t : CT) (r : Rw) (x : Nat → Rw) (κ : Nat × Nat × Nat) (hA : ∀ q, cA t q → κ.2.2 ≤ q) (tp : Nat) (z : Nat → Rw) (f : Nat) (hpi : PI tp z) (hu0 : x 10 0 = nI tp) (htz : tpe z x) (hf0 : f = q_sk (mB z tp) 121 (toN z)) (htok : q_tok ((mB z tp) f) = 2) (hat : x 10 1 = nI f) (hbg : x 10 2 = nI f) : MetX l yX2_digits (ws_ yX2_digits cX2_digits 2 none) (rmF 2) (va_Pc [.ref (t.2.1 1)] (fun U => cK t U ∧ cX t r x U.heap ∧ kS κ U U.heap)) (kP t r x tp (true, x 2, q_next tp z) none) 0 0 (cA t) := by
  refine kk_startX (by decide) (Nat.le_of_ble_eq_true rfl) ?_
  intro p e s m below meth c S hr hlk hin hB ls hl
  obtain ⟨hK, hP⟩ := hB
  have hx := S.1
  have hb := S.2.1
  have hown : s.vm.findClass RX2 = some m.cls := S.2.2.2.1
  have hts := S.2.2.2.2
  have hS : va_S (cA t) s.heap s.heap [] := va_S.rf
  have hl : lv_has ls 2 [(0, .ref (t.2.1 1))] := hl
  obtain ⟨hP, hE⟩ := hP
  have h120 := hpi.2.1
  have hftp := (nx_n hpi hf0).1
  rw [← RT_in x, hat, hbg] at hP
  refine lv_iconst (v := 0) hx hb dX2_digits_0 (by decide) ?_
  refine lv_istore_n (lv' := [(1, .int (0)), (0, .ref (t.2.1 1))]) hx hb dX2_digits_1 rfl hl (by decide) rfl (fun ls hl => ?_)
  have lp_2 : ∀ (j : Nat) (q : Nat) (v : Int32) (H : Heap) (locs : List Loc) (ls : Array Slot), (tp < q + j) → (q_dg (mB z tp) j q v = q_dg (mB z tp) 121 f 0) → (q ≤ tp) → cX t (r) ((RT x (nI q) (nI f) (x 10 3) (x 10 4))) H → va_S (cA t) s.heap H locs → lv_has ls 2 [(0, .ref (t.2.1 1)), (1, .int (v))] → W p l e (rmF 2) s m ([.ref (t.2.1 1)] : List Value).toArray below meth c H locs 0 0 (MQX below (kP t r x tp (true, x 2, q_next tp z) none) ([.ref (t.2.1 1)] : List Value).toArray s 0 0 (cA t)) (F0 m 2 ls []) := by
    intro j
    induction j with
    | zero =>
      intro q v H locs ls hkj he hq hP hS hl
      refine lv_aload_n hx hb dX2_digits_2 rfl (lv_at hl 0 rfl) ?_
      refine lv_aload_n hx hb dX2_digits_3 rfl (lv_at hl 0 rfl) ?_
      refine rg_at S hK hP dX2_digits_4 ?_
      refine kb_val (y := .int (nI q)) rfl ?_
      refine rc_byteAt S hK hP (rm_ok (Nat.le_of_ble_eq_true rfl)) hl.1 (q) (tp) (z) hu0 h120 htz (by omega) rfl (Nat.le_of_ble_eq_true rfl) dX2_digits_7 ?_
      refine rc_isDigit S hK hP (rm_ok (Nat.le_of_ble_eq_true rfl)) hl.1 (Nat.le_of_ble_eq_true rfl) dX2_digits_10 ?_
      refine kb_ifeq (tgt := 57) S dX2_digits_13 (by decide) (fun c_13 => ?_) (fun c_13 => ?_)
      · skip
        have hres : (q, v) = q_dg (mB z tp) 121 f 0 := he
        refine lv_aload_n hx hb dX2_digits_57 rfl (lv_at hl 0 rfl) ?_
        refine lv_iconst (v := 1) hx hb dX2_digits_58 (by decide) ?_
        refine rp_token S hK hP hS (fun _ h => h) dX2_digits_59 (fun H locs hP hS => ?_)
        rw [RT_3] at hP
        refine lv_aload_n hx hb dX2_digits_62 rfl (lv_at hl 0 rfl) ?_
        refine lv_iload_n hx hb dX2_digits_63 rfl (lv_at hl 1 rfl) ?_
        refine rp_value S hK hP hS (fun _ h => h) dX2_digits_64 (fun H locs hP hS => ?_)
        rw [RT_4] at hP
        refine lv_aload_n hx hb dX2_digits_67 rfl (lv_at hl 0 rfl) ?_
        refine lv_iload_n hx hb dX2_digits_68 rfl (lv_at hl 1 rfl) ?_
        refine lv_sipush (v := 999) hx hb dX2_digits_69 (by decide) ?_
        refine lv_icmp_gt (tgt := 79) hx hb dX2_digits_72 (by decide) (fun c_72 => ?_) (fun c_72 => ?_)
        · skip
          refine lv_iconst (v := 0) hx hb dX2_digits_79 (by decide) ?_
          refine rc_need0 S hK hP hS (rm_ok (Nat.le_of_ble_eq_true rfl)) hl.1 (Nat.le_of_ble_eq_true rfl) dX2_digits_80 (fun H locs hP hS => ?_)
          have hng := nogood_d hf0 htok hres (Int32.not_le.mpr c_72)
          exact kp_out (o := (true, x 2, q_next tp z)) hin hlk hS (fun z => hng z.2) (xR.rt x _ _ _ _) (nx_all hf0).2.1.symm hP
        · skip
          refine lv_iconst (v := 1) hx hb dX2_digits_75 (by decide) ?_
          refine lv_goto (tgt := 80) hx hb dX2_digits_76 (by decide) ?_
          refine rc_need1 S hK hP hS (rm_ok (Nat.le_of_ble_eq_true rfl)) hl.1 (Nat.le_of_ble_eq_true rfl) dX2_digits_80 (fun H locs hP hS => ?_)
          have hrd := rd_d (u := (RT x (nI q) (nI f) 1 v) 10) hf0 htok hres (Int32.not_lt.mp c_72) hu0 rfl rfl rfl rfl
          exact kp_vret (o := (true, x 2, q_next tp z)) S hr hlk hS ⟨rfl, hrd.good⟩ (xR.rt x _ _ _ _) hrd rfl hP dX2_digits_83
      · exact absurd (show dgt (mB z tp q) from c_13) (by rw [mB_out (by omega)]; decide)
    | succ j ih =>
      intro q v H locs ls hkj he hq hP hS hl
      have ih_2 := ih
      refine lv_aload_n hx hb dX2_digits_2 rfl (lv_at hl 0 rfl) ?_
      refine lv_aload_n hx hb dX2_digits_3 rfl (lv_at hl 0 rfl) ?_
      refine rg_at S hK hP dX2_digits_4 ?_
      refine kb_val (y := .int (nI q)) rfl ?_
      refine rc_byteAt S hK hP (rm_ok (Nat.le_of_ble_eq_true rfl)) hl.1 (q) (tp) (z) hu0 h120 htz (by omega) rfl (Nat.le_of_ble_eq_true rfl) dX2_digits_7 ?_
      refine rc_isDigit S hK hP (rm_ok (Nat.le_of_ble_eq_true rfl)) hl.1 (Nat.le_of_ble_eq_true rfl) dX2_digits_10 ?_
      refine kb_ifeq (tgt := 57) S dX2_digits_13 (by decide) (fun c_13 => ?_) (fun c_13 => ?_)
      · skip
        have hres : (q, v) = q_dg (mB z tp) 121 f 0 := by (have h := he; rw [q_dg, if_neg (show ¬ dgt (mB z tp q) from c_13)] at h; exact h)
        refine lv_aload_n hx hb dX2_digits_57 rfl (lv_at hl 0 rfl) ?_
        refine lv_iconst (v := 1) hx hb dX2_digits_58 (by decide) ?_
        refine rp_token S hK hP hS (fun _ h => h) dX2_digits_59 (fun H locs hP hS => ?_)
        rw [RT_3] at hP
        refine lv_aload_n hx hb dX2_digits_62 rfl (lv_at hl 0 rfl) ?_
        refine lv_iload_n hx hb dX2_digits_63 rfl (lv_at hl 1 rfl) ?_
        refine rp_value S hK hP hS (fun _ h => h) dX2_digits_64 (fun H locs hP hS => ?_)
        rw [RT_4] at hP
        refine lv_aload_n hx hb dX2_digits_67 rfl (lv_at hl 0 rfl) ?_
        refine lv_iload_n hx hb dX2_digits_68 rfl (lv_at hl 1 rfl) ?_
        refine lv_sipush (v := 999) hx hb dX2_digits_69 (by decide) ?_
        refine lv_icmp_gt (tgt := 79) hx hb dX2_digits_72 (by decide) (fun c_72 => ?_) (fun c_72 => ?_)
        · skip
          refine lv_iconst (v := 0) hx hb dX2_digits_79 (by decide) ?_
          refine rc_need0 S hK hP hS (rm_ok (Nat.le_of_ble_eq_true rfl)) hl.1 (Nat.le_of_ble_eq_true rfl) dX2_digits_80 (fun H locs hP hS => ?_)
          have hng := nogood_d hf0 htok hres (Int32.not_le.mpr c_72)
          exact kp_out (o := (true, x 2, q_next tp z)) hin hlk hS (fun z => hng z.2) (xR.rt x _ _ _ _) (nx_all hf0).2.1.symm hP
        · skip
          refine lv_iconst (v := 1) hx hb dX2_digits_75 (by decide) ?_
          refine lv_goto (tgt := 80) hx hb dX2_digits_76 (by decide) ?_
          refine rc_need1 S hK hP hS (rm_ok (Nat.le_of_ble_eq_true rfl)) hl.1 (Nat.le_of_ble_eq_true rfl) dX2_digits_80 (fun H locs hP hS => ?_)
          have hrd := rd_d (u := (RT x (nI q) (nI f) 1 v) 10) hf0 htok hres (Int32.not_lt.mp c_72) hu0 rfl rfl rfl rfl
          exact kp_vret (o := (true, x 2, q_next tp z)) S hr hlk hS ⟨rfl, hrd.good⟩ (xR.rt x _ _ _ _) hrd rfl hP dX2_digits_83
      · skip
        refine lv_iload_n hx hb dX2_digits_16 rfl (lv_at hl 1 rfl) ?_
        refine lv_sipush (v := 999) hx hb dX2_digits_17 (by decide) ?_
        refine lv_icmp_le (tgt := 27) hx hb dX2_digits_20 (by decide) (fun c_20 => ?_) (fun c_20 => ?_)
        · skip
          refine lv_bipush (v := 10) hx hb dX2_digits_27 (by decide) ?_
          refine lv_iload_n hx hb dX2_digits_29 rfl (lv_at hl 1 rfl) ?_
          refine lv_imul hx hb dX2_digits_30 ?_
          refine lv_aload_n hx hb dX2_digits_31 rfl (lv_at hl 0 rfl) ?_
          refine lv_aload_n hx hb dX2_digits_32 rfl (lv_at hl 0 rfl) ?_
          refine rg_at S hK hP dX2_digits_33 ?_
          refine kb_val (y := .int (nI q)) rfl ?_
          refine rc_byteAt S hK hP (rm_ok (Nat.le_of_ble_eq_true rfl)) hl.1 (q) (tp) (z) hu0 h120 htz (by omega) rfl (Nat.le_of_ble_eq_true rfl) dX2_digits_36 ?_
          refine lv_iadd hx hb dX2_digits_39 ?_
          refine lv_bipush (v := 48) hx hb dX2_digits_40 (by decide) ?_
          refine lv_isub hx hb dX2_digits_42 ?_
          refine lv_istore_n (lv' := [(1, .int ((((10 * v) + mB z tp q) - 48))), (0, .ref (t.2.1 1))]) hx hb dX2_digits_43 rfl hl (by decide) rfl (fun ls hl => ?_)
          refine lv_aload_n hx hb dX2_digits_44 rfl (lv_at hl 1 rfl) ?_
          refine lv_dup hx hb dX2_digits_45 rfl ?_
          refine rg_at S hK hP dX2_digits_46 ?_
          refine kb_val (y := .int (nI q)) rfl ?_
          refine lv_iconst (v := 1) hx hb dX2_digits_49 (by decide) ?_
          refine lv_iadd hx hb dX2_digits_50 ?_
          refine kb_nat (y := nI ((q + 1))) (nn_add rfl rfl) ?_
          refine rp_at S hK hP hS (fun _ h => h) dX2_digits_51 (fun H locs hP hS => ?_)
          rw [RT_1] at hP
          refine lv_goto (tgt := 2) hx hb dX2_digits_54 (by decide) ?_
          exact ih_2  (q + 1) _ _ _ ls (by omega) (by have h := he; rw [q_dg, if_pos (show dgt (mB z tp q) from c_13), q_nv, if_pos c_20] at h; exact h) (mB_lt (Int32.le_trans (by decide) c_13.1)) hP hS (lv_sub hl [1, 0] rfl)
        · skip
          refine lv_iload_n hx hb dX2_digits_23 rfl (lv_at hl 1 rfl) ?_
          refine lv_goto (tgt := 43) hx hb dX2_digits_24 (by decide) ?_
          refine lv_istore_n (lv' := [(1, .int (v)), (0, .ref (t.2.1 1))]) hx hb dX2_digits_43 rfl hl (by decide) rfl (fun ls hl => ?_)
          refine lv_aload_n hx hb dX2_digits_44 rfl (lv_at hl 1 rfl) ?_
          refine lv_dup hx hb dX2_digits_45 rfl ?_
          refine rg_at S hK hP dX2_digits_46 ?_
          refine kb_val (y := .int (nI q)) rfl ?_
          refine lv_iconst (v := 1) hx hb dX2_digits_49 (by decide) ?_
          refine lv_iadd hx hb dX2_digits_50 ?_
          refine kb_nat (y := nI ((q + 1))) (nn_add rfl rfl) ?_
          refine rp_at S hK hP hS (fun _ h => h) dX2_digits_51 (fun H locs hP hS => ?_)
          rw [RT_1] at hP
          refine lv_goto (tgt := 2) hx hb dX2_digits_54 (by decide) ?_
          exact ih_2  (q + 1) _ _ _ ls (by omega) (by have h := he; rw [q_dg, if_pos (show dgt (mB z tp q) from c_13), q_nv, if_neg c_20] at h; exact h) (mB_lt (Int32.le_trans (by decide) c_13.1)) hP hS (lv_sub hl [1, 0] rfl)
  exact lp_2 121 f 0 _ _ ls (by omega) (rfl) (hftp) hP hS (lv_sub hl [1, 0] rfl)
section CC
variable {p : Program} {l : Launch} {e : Env} {R : Room} {s : State} {m : MethodId} {args : Array Value} {below : List Frame} {meth : Method} {c : Code} {H H0 : Heap} {locs : List Loc} {cells slots : Nat} {Q : State → Prop}
variable {cc : ByteArray} {pc nL : Nat} {ls : Array Slot} {rest : List Value} {t : CT} {r : Rw} {x : Nat → Rw}
theorem rc_word {κ : Nat × Nat × Nat} (S : CallFix p m c cc nL s args lw_all RX2) (hK : cK t s) (hP : cX t r x H) (hE : kS κ s H) (hA : ∀ q, cA t q → κ.2.2 ≤ q) (hS : va_S (cA t) H0 H locs) (hR : kRm R 6 cells slots) (hsz : ls.size = nL) (tp : Nat) (z : Nat → Rw) (f : Nat) (hpi : PI tp z) (hu0 : x 10 0 = nI tp) (htz : tpe z x) (hf0 : f = q_sk (mB z tp) 121 (toN z)) (htok : q_tok ((mB z tp) f) = 1) (hat : x 10 1 = nI f) (hbg : x 10 2 = nI f) (hrest : (rest.map fun v => v.category).sum ≤ 8) (hdg : decode cc pc = .ok (.invokevirtual 54, 3)) (kr : OKs tp (true, x 2, q_next tp z) → ∀ (x' : Nat → Rw) (H1 : Heap) (locs1 : List Loc), xR x x' → RD tp (true, x 2, q_next tp z).2.2 (x' 10) → x' 2 = (true, x 2, q_next tp z).2.1 → cX t r x' H1 → va_S (cA t) H0 H1 locs1 → W p l e R s m args below meth c H1 locs1 cells slots Q (F0 m (pc + 3) ls (rest))) (kt : ¬ OKs tp (true, x 2, q_next tp z) → ∀ (x' : Nat → Rw) (H1 : Heap) (locs1 : List Loc), xR x x' → x' 10 2 = m_fault (true, x 2, q_next tp z) → cX t r x' H1 → va_S (cA t) H0 H1 locs1 → WT p l e R s m args below meth c H1 locs1 cells slots Q (F0 m pc ls rest) (t.2.1 3)) : W p l e R s m args below meth c H locs cells slots Q (F0 m pc ls (.ref (t.2.1 1) :: rest)) := by
  exact kk_P (W.runX (As := []) (rest := rest) (maxL := 2) S (k2_word l t r x κ hA tp z f hpi hu0 htz hf0 htok hat hbg) rfl rfl hR.1 (by have := hR.2.1; show 8 + (2 + 11) + 38 * 5 ≤ R.locals; omega) (pay_in S.2.2.2.2 (lw_meth q1041)) (fun U hW => LocX.code (pay_in S.2.2.2.2 (lw_meth q1041) _ List.mem_cons_self #[] U hW)) (S.2.2.2.2 _ q106) ⟨by decide, by decide⟩ (show (parseMethodDescriptor yX2_word.desc).map (fun d => d.parameters.length) = some 0 from by decide +kernel) (S.2.2.2.2 _ q1038) (S.2.2.2.2 _ q1040) (S.2.2.2.2 _ qs40) ⟨sR_blind, c_recvR hK hP, sR_pre hK hP hE⟩ rfl hsz rfl (lv_room hrest) hdg ⟨hR.2.2.1, hR.2.2.2⟩) hS (fun _ h => h) kr kt
theorem rc_digits {κ : Nat × Nat × Nat} (S : CallFix p m c cc nL s args lw_all RX2) (hK : cK t s) (hP : cX t r x H) (hE : kS κ s H) (hA : ∀ q, cA t q → κ.2.2 ≤ q) (hS : va_S (cA t) H0 H locs) (hR : kRm R 3 cells slots) (hsz : ls.size = nL) (tp : Nat) (z : Nat → Rw) (f : Nat) (hpi : PI tp z) (hu0 : x 10 0 = nI tp) (htz : tpe z x) (hf0 : f = q_sk (mB z tp) 121 (toN z)) (htok : q_tok ((mB z tp) f) = 2) (hat : x 10 1 = nI f) (hbg : x 10 2 = nI f) (hrest : (rest.map fun v => v.category).sum ≤ 8) (hdg : decode cc pc = .ok (.invokevirtual 60, 3)) (kr : OKs tp (true, x 2, q_next tp z) → ∀ (x' : Nat → Rw) (H1 : Heap) (locs1 : List Loc), xR x x' → RD tp (true, x 2, q_next tp z).2.2 (x' 10) → x' 2 = (true, x 2, q_next tp z).2.1 → cX t r x' H1 → va_S (cA t) H0 H1 locs1 → W p l e R s m args below meth c H1 locs1 cells slots Q (F0 m (pc + 3) ls (rest))) (kt : ¬ OKs tp (true, x 2, q_next tp z) → ∀ (x' : Nat → Rw) (H1 : Heap) (locs1 : List Loc), xR x x' → x' 10 2 = m_fault (true, x 2, q_next tp z) → cX t r x' H1 → va_S (cA t) H0 H1 locs1 → WT p l e R s m args below meth c H1 locs1 cells slots Q (F0 m pc ls rest) (t.2.1 3)) : W p l e R s m args below meth c H locs cells slots Q (F0 m pc ls (.ref (t.2.1 1) :: rest)) := by
  exact kk_P (W.runX (As := []) (rest := rest) (maxL := 2) S (k2_digits l t r x κ hA tp z f hpi hu0 htz hf0 htok hat hbg) rfl rfl hR.1 (by have := hR.2.1; show 8 + (2 + 11) + 38 * 2 ≤ R.locals; omega) (pay_in S.2.2.2.2 (lw_meth q1097)) (fun U hW => LocX.code (pay_in S.2.2.2.2 (lw_meth q1097) _ List.mem_cons_self #[] U hW)) (S.2.2.2.2 _ q106) ⟨by decide, by decide⟩ (show (parseMethodDescriptor yX2_digits.desc).map (fun d => d.parameters.length) = some 0 from by decide +kernel) (S.2.2.2.2 _ q1094) (S.2.2.2.2 _ q1096) (S.2.2.2.2 _ qs43) ⟨sR_blind, c_recvR hK hP, sR_pre hK hP hE⟩ rfl hsz rfl (lv_room hrest) hdg ⟨hR.2.2.1, hR.2.2.2⟩) hS (fun _ h => h) kr kt
end CC
set_option maxHeartbeats 4000000 in
set_option maxRecDepth 100000 in
theorem k2_next (l : Launch) (t : CT) (r : Rw) (x : Nat → Rw) (κ : Nat × Nat × Nat) (hA : ∀ q, cA t q → κ.2.2 ≤ q) (tp : Nat) (z : Nat → Rw) (hpi : PI tp z) (hu0 : x 10 0 = nI tp) (htz : tpe z x) (hat : x 10 1 = z 9 6) : MetX l yX2_next (ws_ yX2_next cX2_next 2 none) (rmF 6) (va_Pc [.ref (t.2.1 1)] (fun U => cK t U ∧ cX t r x U.heap ∧ kS κ U U.heap)) (kP t r x tp (true, x 2, q_next tp z) none) 0 0 (cA t) := by
  refine kk_startX (by decide) (Nat.le_of_ble_eq_true rfl) ?_
  intro p e s m below meth c S hr hlk hin hB ls hl
  obtain ⟨hK, hP⟩ := hB
  have hx := S.1
  have hb := S.2.1
  have hown : s.vm.findClass RX2 = some m.cls := S.2.2.2.1
  have hts := S.2.2.2.2
  have hS : va_S (cA t) s.heap s.heap [] := va_S.rf
  have hl : lv_has ls 2 [(0, .ref (t.2.1 1))] := hl
  obtain ⟨hP, hE⟩ := hP
  have h120 := hpi.2.1
  have hat2 : x 10 1 = nI (toN z) := hat.trans hpi.to.1
  rw [← RT_in x, hat2] at hP
  have lp_0 : ∀ (j : Nat) (k : Nat) (H : Heap) (locs : List Loc) (ls : Array Slot), (tp < k + j) → (q_sk (mB z tp) j k = q_sk (mB z tp) 121 (toN z)) → (k ≤ tp) → cX t (r) ((RT x (nI k) (x 10 2) (x 10 3) (x 10 4))) H → va_S (cA t) s.heap H locs → lv_has ls 2 [(0, .ref (t.2.1 1))] → W p l e (rmF 6) s m ([.ref (t.2.1 1)] : List Value).toArray below meth c H locs 0 0 (MQX below (kP t r x tp (true, x 2, q_next tp z) none) ([.ref (t.2.1 1)] : List Value).toArray s 0 0 (cA t)) (F0 m 0 ls []) := by
    intro j
    induction j with
    | zero =>
      intro k H locs ls hkj he hk hP hS hl
      refine lv_aload_n hx hb dX2_next_0 rfl (lv_at hl 0 rfl) ?_
      refine lv_aload_n hx hb dX2_next_1 rfl (lv_at hl 0 rfl) ?_
      refine rg_at S hK hP dX2_next_2 ?_
      refine kb_val (y := .int (nI k)) rfl ?_
      refine rc_byteAt S hK hP (rm_ok (Nat.le_of_ble_eq_true rfl)) hl.1 (k) (tp) (z) hu0 h120 htz (by omega) rfl (Nat.le_of_ble_eq_true rfl) dX2_next_5 ?_
      refine lv_bipush (v := 32) hx hb dX2_next_8 (by decide) ?_
      refine lv_icmp_ne (tgt := 26) hx hb dX2_next_10 (by decide) (fun c_10 => ?_) (fun c_10 => ?_)
      · skip
        have hf0 : k = q_sk (mB z tp) 121 (toN z) := he
        refine lv_aload_n hx hb dX2_next_26 rfl (lv_at hl 0 rfl) ?_
        refine lv_aload_n hx hb dX2_next_27 rfl (lv_at hl 0 rfl) ?_
        refine rg_at S hK hP dX2_next_28 ?_
        refine kb_val (y := .int (nI k)) rfl ?_
        refine rp_begin S hK hP hS (fun _ h => h) dX2_next_31 (fun H locs hP hS => ?_)
        rw [RT_2] at hP
        refine lv_aload_n hx hb dX2_next_34 rfl (lv_at hl 0 rfl) ?_
        refine lv_aload_n hx hb dX2_next_35 rfl (lv_at hl 0 rfl) ?_
        refine rg_at S hK hP dX2_next_36 ?_
        refine kb_val (y := .int (nI k)) rfl ?_
        refine rc_byteAt S hK hP (rm_ok (Nat.le_of_ble_eq_true rfl)) hl.1 (k) (tp) (z) hu0 h120 htz (by omega) rfl (Nat.le_of_ble_eq_true rfl) dX2_next_39 ?_
        refine kb_nat (y := mB z tp k) rfl ?_
        refine lv_istore_n (lv' := [(1, .int ((mB z tp k))), (0, .ref (t.2.1 1))]) hx hb dX2_next_42 rfl hl (by decide) rfl (fun ls hl => ?_)
        refine lv_iload_n hx hb dX2_next_43 rfl (lv_at hl 0 rfl) ?_
        refine lv_if_ge (tgt := 55) hx hb dX2_next_44 (by decide) (fun c_44 => ?_) (fun c_44 => ?_)
        · skip
          refine lv_iload_n hx hb dX2_next_55 rfl (lv_at hl 0 rfl) ?_
          refine rc_isLetter S hK hP (rm_ok (Nat.le_of_ble_eq_true rfl)) hl.1 (Nat.le_of_ble_eq_true rfl) dX2_next_56 ?_
          refine kb_ifeq (tgt := 69) S dX2_next_59 (by decide) (fun c_59 => ?_) (fun c_59 => ?_)
          · skip
            refine lv_iload_n hx hb dX2_next_69 rfl (lv_at hl 0 rfl) ?_
            refine rc_isDigit S hK hP (rm_ok (Nat.le_of_ble_eq_true rfl)) hl.1 (Nat.le_of_ble_eq_true rfl) dX2_next_70 ?_
            refine kb_ifeq (tgt := 83) S dX2_next_73 (by decide) (fun c_73 => ?_) (fun c_73 => ?_)
            · skip
              refine lv_aload_n hx hb dX2_next_83 rfl (lv_at hl 1 rfl) ?_
              refine lv_iload_n hx hb dX2_next_84 rfl (lv_at hl 0 rfl) ?_
              refine lv_bipush (v := 59) hx hb dX2_next_85 (by decide) ?_
              refine lv_icmp_ne (tgt := 94) hx hb dX2_next_87 (by decide) (fun c_87 => ?_) (fun c_87 => ?_)
              · skip
                refine lv_iconst (v := 0) hx hb dX2_next_94 (by decide) ?_
                refine rc_need0 S hK hP hS (rm_ok (Nat.le_of_ble_eq_true rfl)) hl.1 (Nat.le_of_ble_eq_true rfl) dX2_next_95 (fun H locs hP hS => ?_)
                have hng := nogood_4 hf0 (qx_4 c_44 c_59 c_73 c_87)
                exact kp_out (o := (true, x 2, q_next tp z)) hin hlk hS (fun z => hng z.2) (xR.rt x _ _ _ _) (nx_all hf0).2.1.symm hP
              · skip
                refine lv_iconst (v := 1) hx hb dX2_next_90 (by decide) ?_
                refine lv_goto (tgt := 95) hx hb dX2_next_91 (by decide) ?_
                refine rc_need1 S hK hP hS (rm_ok (Nat.le_of_ble_eq_true rfl)) hl.1 (Nat.le_of_ble_eq_true rfl) dX2_next_95 (fun H locs hP hS => ?_)
                refine lv_aload_n hx hb dX2_next_98 rfl (lv_at hl 1 rfl) ?_
                refine lv_iconst (v := 3) hx hb dX2_next_99 (by decide) ?_
                refine rp_token S hK hP hS (fun _ h => h) dX2_next_100 (fun H locs hP hS => ?_)
                rw [RT_3] at hP
                refine lv_aload_n hx hb dX2_next_103 rfl (lv_at hl 1 rfl) ?_
                refine lv_dup hx hb dX2_next_104 rfl ?_
                refine rg_at S hK hP dX2_next_105 ?_
                refine kb_val (y := .int (nI k)) rfl ?_
                refine lv_iconst (v := 1) hx hb dX2_next_108 (by decide) ?_
                refine lv_iadd hx hb dX2_next_109 ?_
                refine kb_nat (y := nI ((k + 1))) (nn_add rfl rfl) ?_
                refine rp_at S hK hP hS (fun _ h => h) dX2_next_110 (fun H locs hP hS => ?_)
                rw [RT_1] at hP
                have hrd := rd_3 (u := (RT x (nI (k + 1)) (nI k) 3 (x 10 4)) 10) hf0 (qx_3 c_44 c_59 c_73 c_87) hu0 rfl rfl rfl
                exact kp_vret (o := (true, x 2, q_next tp z)) S hr hlk hS ⟨rfl, hrd.good⟩ (xR.rt x _ _ _ _) hrd rfl hP dX2_next_113
            · skip
              refine lv_aload_n hx hb dX2_next_76 rfl (lv_at hl 1 rfl) ?_
              refine rc_digits S hK hP (hE.keep hA hS) hA hS (rm_ok (Nat.le_of_ble_eq_true rfl)) hl.1 (tp) (z) (k) hpi hu0 htz hf0 (qx_2 c_44 c_59 c_73) rfl rfl (Nat.le_of_ble_eq_true rfl) dX2_next_77 (fun ho_77 x_77 H locs hx_77 hd_77 h2_77 hP hS => ?_) (fun ho_77 x_77 H locs hx_77 hf_77 hP hS => ?_)
              · skip
                refine lv_goto (tgt := 113) hx hb dX2_next_80 (by decide) ?_
                exact kp_vret (o := (true, x 2, q_next tp z)) S hr hlk hS ho_77 ((xR.rt x _ _ _ _).tr hx_77) hd_77 h2_77 hP dX2_next_113
              · skip
                exact kp_out (o := (true, x 2, q_next tp z)) hin hlk hS ho_77 ((xR.rt x _ _ _ _).tr hx_77) hf_77 hP
          · skip
            refine lv_aload_n hx hb dX2_next_62 rfl (lv_at hl 1 rfl) ?_
            refine rc_word S hK hP (hE.keep hA hS) hA hS (rm_ok (Nat.le_of_ble_eq_true rfl)) hl.1 (tp) (z) (k) hpi hu0 htz hf0 (qx_1 c_44 c_59) rfl rfl (Nat.le_of_ble_eq_true rfl) dX2_next_63 (fun ho_63 x_63 H locs hx_63 hd_63 h2_63 hP hS => ?_) (fun ho_63 x_63 H locs hx_63 hf_63 hP hS => ?_)
            · skip
              refine lv_goto (tgt := 113) hx hb dX2_next_66 (by decide) ?_
              exact kp_vret (o := (true, x 2, q_next tp z)) S hr hlk hS ho_63 ((xR.rt x _ _ _ _).tr hx_63) hd_63 h2_63 hP dX2_next_113
            · skip
              exact kp_out (o := (true, x 2, q_next tp z)) hin hlk hS ho_63 ((xR.rt x _ _ _ _).tr hx_63) hf_63 hP
        · skip
          refine lv_aload_n hx hb dX2_next_47 rfl (lv_at hl 1 rfl) ?_
          refine lv_iconst (v := 0) hx hb dX2_next_48 (by decide) ?_
          refine rp_token S hK hP hS (fun _ h => h) dX2_next_49 (fun H locs hP hS => ?_)
          rw [RT_3] at hP
          refine lv_goto (tgt := 113) hx hb dX2_next_52 (by decide) ?_
          have hrd := rd_0 (u := (RT x (nI k) (nI k) 0 (x 10 4)) 10) hf0 (qx_0 c_44) hu0 rfl rfl rfl
          exact kp_vret (o := (true, x 2, q_next tp z)) S hr hlk hS ⟨rfl, hrd.good⟩ (xR.rt x _ _ _ _) hrd rfl hP dX2_next_113
      · exact absurd (show mB z tp k = 32 from c_10) (by rw [mB_out (by omega)]; decide)
    | succ j ih =>
      intro k H locs ls hkj he hk hP hS hl
      have ih_0 := ih
      refine lv_aload_n hx hb dX2_next_0 rfl (lv_at hl 0 rfl) ?_
      refine lv_aload_n hx hb dX2_next_1 rfl (lv_at hl 0 rfl) ?_
      refine rg_at S hK hP dX2_next_2 ?_
      refine kb_val (y := .int (nI k)) rfl ?_
      refine rc_byteAt S hK hP (rm_ok (Nat.le_of_ble_eq_true rfl)) hl.1 (k) (tp) (z) hu0 h120 htz (by omega) rfl (Nat.le_of_ble_eq_true rfl) dX2_next_5 ?_
      refine lv_bipush (v := 32) hx hb dX2_next_8 (by decide) ?_
      refine lv_icmp_ne (tgt := 26) hx hb dX2_next_10 (by decide) (fun c_10 => ?_) (fun c_10 => ?_)
      · skip
        have hf0 : k = q_sk (mB z tp) 121 (toN z) := by (have h := he; rw [q_sk, if_neg (show ¬ mB z tp k = 32 from c_10)] at h; exact h)
        refine lv_aload_n hx hb dX2_next_26 rfl (lv_at hl 0 rfl) ?_
        refine lv_aload_n hx hb dX2_next_27 rfl (lv_at hl 0 rfl) ?_
        refine rg_at S hK hP dX2_next_28 ?_
        refine kb_val (y := .int (nI k)) rfl ?_
        refine rp_begin S hK hP hS (fun _ h => h) dX2_next_31 (fun H locs hP hS => ?_)
        rw [RT_2] at hP
        refine lv_aload_n hx hb dX2_next_34 rfl (lv_at hl 0 rfl) ?_
        refine lv_aload_n hx hb dX2_next_35 rfl (lv_at hl 0 rfl) ?_
        refine rg_at S hK hP dX2_next_36 ?_
        refine kb_val (y := .int (nI k)) rfl ?_
        refine rc_byteAt S hK hP (rm_ok (Nat.le_of_ble_eq_true rfl)) hl.1 (k) (tp) (z) hu0 h120 htz (by omega) rfl (Nat.le_of_ble_eq_true rfl) dX2_next_39 ?_
        refine kb_nat (y := mB z tp k) rfl ?_
        refine lv_istore_n (lv' := [(1, .int ((mB z tp k))), (0, .ref (t.2.1 1))]) hx hb dX2_next_42 rfl hl (by decide) rfl (fun ls hl => ?_)
        refine lv_iload_n hx hb dX2_next_43 rfl (lv_at hl 0 rfl) ?_
        refine lv_if_ge (tgt := 55) hx hb dX2_next_44 (by decide) (fun c_44 => ?_) (fun c_44 => ?_)
        · skip
          refine lv_iload_n hx hb dX2_next_55 rfl (lv_at hl 0 rfl) ?_
          refine rc_isLetter S hK hP (rm_ok (Nat.le_of_ble_eq_true rfl)) hl.1 (Nat.le_of_ble_eq_true rfl) dX2_next_56 ?_
          refine kb_ifeq (tgt := 69) S dX2_next_59 (by decide) (fun c_59 => ?_) (fun c_59 => ?_)
          · skip
            refine lv_iload_n hx hb dX2_next_69 rfl (lv_at hl 0 rfl) ?_
            refine rc_isDigit S hK hP (rm_ok (Nat.le_of_ble_eq_true rfl)) hl.1 (Nat.le_of_ble_eq_true rfl) dX2_next_70 ?_
            refine kb_ifeq (tgt := 83) S dX2_next_73 (by decide) (fun c_73 => ?_) (fun c_73 => ?_)
            · skip
              refine lv_aload_n hx hb dX2_next_83 rfl (lv_at hl 1 rfl) ?_
              refine lv_iload_n hx hb dX2_next_84 rfl (lv_at hl 0 rfl) ?_
              refine lv_bipush (v := 59) hx hb dX2_next_85 (by decide) ?_
              refine lv_icmp_ne (tgt := 94) hx hb dX2_next_87 (by decide) (fun c_87 => ?_) (fun c_87 => ?_)
              · skip
                refine lv_iconst (v := 0) hx hb dX2_next_94 (by decide) ?_
                refine rc_need0 S hK hP hS (rm_ok (Nat.le_of_ble_eq_true rfl)) hl.1 (Nat.le_of_ble_eq_true rfl) dX2_next_95 (fun H locs hP hS => ?_)
                have hng := nogood_4 hf0 (qx_4 c_44 c_59 c_73 c_87)
                exact kp_out (o := (true, x 2, q_next tp z)) hin hlk hS (fun z => hng z.2) (xR.rt x _ _ _ _) (nx_all hf0).2.1.symm hP
              · skip
                refine lv_iconst (v := 1) hx hb dX2_next_90 (by decide) ?_
                refine lv_goto (tgt := 95) hx hb dX2_next_91 (by decide) ?_
                refine rc_need1 S hK hP hS (rm_ok (Nat.le_of_ble_eq_true rfl)) hl.1 (Nat.le_of_ble_eq_true rfl) dX2_next_95 (fun H locs hP hS => ?_)
                refine lv_aload_n hx hb dX2_next_98 rfl (lv_at hl 1 rfl) ?_
                refine lv_iconst (v := 3) hx hb dX2_next_99 (by decide) ?_
                refine rp_token S hK hP hS (fun _ h => h) dX2_next_100 (fun H locs hP hS => ?_)
                rw [RT_3] at hP
                refine lv_aload_n hx hb dX2_next_103 rfl (lv_at hl 1 rfl) ?_
                refine lv_dup hx hb dX2_next_104 rfl ?_
                refine rg_at S hK hP dX2_next_105 ?_
                refine kb_val (y := .int (nI k)) rfl ?_
                refine lv_iconst (v := 1) hx hb dX2_next_108 (by decide) ?_
                refine lv_iadd hx hb dX2_next_109 ?_
                refine kb_nat (y := nI ((k + 1))) (nn_add rfl rfl) ?_
                refine rp_at S hK hP hS (fun _ h => h) dX2_next_110 (fun H locs hP hS => ?_)
                rw [RT_1] at hP
                have hrd := rd_3 (u := (RT x (nI (k + 1)) (nI k) 3 (x 10 4)) 10) hf0 (qx_3 c_44 c_59 c_73 c_87) hu0 rfl rfl rfl
                exact kp_vret (o := (true, x 2, q_next tp z)) S hr hlk hS ⟨rfl, hrd.good⟩ (xR.rt x _ _ _ _) hrd rfl hP dX2_next_113
            · skip
              refine lv_aload_n hx hb dX2_next_76 rfl (lv_at hl 1 rfl) ?_
              refine rc_digits S hK hP (hE.keep hA hS) hA hS (rm_ok (Nat.le_of_ble_eq_true rfl)) hl.1 (tp) (z) (k) hpi hu0 htz hf0 (qx_2 c_44 c_59 c_73) rfl rfl (Nat.le_of_ble_eq_true rfl) dX2_next_77 (fun ho_77 x_77 H locs hx_77 hd_77 h2_77 hP hS => ?_) (fun ho_77 x_77 H locs hx_77 hf_77 hP hS => ?_)
              · skip
                refine lv_goto (tgt := 113) hx hb dX2_next_80 (by decide) ?_
                exact kp_vret (o := (true, x 2, q_next tp z)) S hr hlk hS ho_77 ((xR.rt x _ _ _ _).tr hx_77) hd_77 h2_77 hP dX2_next_113
              · skip
                exact kp_out (o := (true, x 2, q_next tp z)) hin hlk hS ho_77 ((xR.rt x _ _ _ _).tr hx_77) hf_77 hP
          · skip
            refine lv_aload_n hx hb dX2_next_62 rfl (lv_at hl 1 rfl) ?_
            refine rc_word S hK hP (hE.keep hA hS) hA hS (rm_ok (Nat.le_of_ble_eq_true rfl)) hl.1 (tp) (z) (k) hpi hu0 htz hf0 (qx_1 c_44 c_59) rfl rfl (Nat.le_of_ble_eq_true rfl) dX2_next_63 (fun ho_63 x_63 H locs hx_63 hd_63 h2_63 hP hS => ?_) (fun ho_63 x_63 H locs hx_63 hf_63 hP hS => ?_)
            · skip
              refine lv_goto (tgt := 113) hx hb dX2_next_66 (by decide) ?_
              exact kp_vret (o := (true, x 2, q_next tp z)) S hr hlk hS ho_63 ((xR.rt x _ _ _ _).tr hx_63) hd_63 h2_63 hP dX2_next_113
            · skip
              exact kp_out (o := (true, x 2, q_next tp z)) hin hlk hS ho_63 ((xR.rt x _ _ _ _).tr hx_63) hf_63 hP
        · skip
          refine lv_aload_n hx hb dX2_next_47 rfl (lv_at hl 1 rfl) ?_
          refine lv_iconst (v := 0) hx hb dX2_next_48 (by decide) ?_
          refine rp_token S hK hP hS (fun _ h => h) dX2_next_49 (fun H locs hP hS => ?_)
          rw [RT_3] at hP
          refine lv_goto (tgt := 113) hx hb dX2_next_52 (by decide) ?_
          have hrd := rd_0 (u := (RT x (nI k) (nI k) 0 (x 10 4)) 10) hf0 (qx_0 c_44) hu0 rfl rfl rfl
          exact kp_vret (o := (true, x 2, q_next tp z)) S hr hlk hS ⟨rfl, hrd.good⟩ (xR.rt x _ _ _ _) hrd rfl hP dX2_next_113
      · skip
        refine lv_aload_n hx hb dX2_next_13 rfl (lv_at hl 0 rfl) ?_
        refine lv_dup hx hb dX2_next_14 rfl ?_
        refine rg_at S hK hP dX2_next_15 ?_
        refine kb_val (y := .int (nI k)) rfl ?_
        refine lv_iconst (v := 1) hx hb dX2_next_18 (by decide) ?_
        refine lv_iadd hx hb dX2_next_19 ?_
        refine kb_nat (y := nI ((k + 1))) (nn_add rfl rfl) ?_
        refine rp_at S hK hP hS (fun _ h => h) dX2_next_20 (fun H locs hP hS => ?_)
        rw [RT_1] at hP
        refine lv_goto (tgt := 0) hx hb dX2_next_23 (by decide) ?_
        exact ih_0  (k + 1) _ _ ls (by omega) (by have h := he; rw [q_sk, if_pos (show mB z tp k = 32 from c_10)] at h; exact h) (mB_lt (by rw [show mB z tp k = 32 from c_10]; decide)) hP hS (lv_sub hl [0] rfl)
  exact lp_0 121 (toN z) _ _ ls (by omega) (rfl) (hpi.to.2) hP hS (lv_sub hl [0] rfl)
section CC
variable {p : Program} {l : Launch} {e : Env} {R : Room} {s : State} {m : MethodId} {args : Array Value} {below : List Frame} {meth : Method} {c : Code} {H H0 : Heap} {locs : List Loc} {cells slots : Nat} {Q : State → Prop}
variable {cc : ByteArray} {pc nL : Nat} {ls : Array Slot} {rest : List Value} {t : CT} {r : Rw} {x : Nat → Rw}
theorem rc_next {κ : Nat × Nat × Nat} (S : CallFix p m c cc nL s args lw_all RX2) (hK : cK t s) (hP : cX t r x H) (hE : kS κ s H) (hA : ∀ q, cA t q → κ.2.2 ≤ q) (hS : va_S (cA t) H0 H locs) (hR : kRm R 7 cells slots) (hsz : ls.size = nL) (tp : Nat) (z : Nat → Rw) (hpi : PI tp z) (hu0 : x 10 0 = nI tp) (htz : tpe z x) (hat : x 10 1 = z 9 6) (hrest : (rest.map fun v => v.category).sum ≤ 8) (hdg : decode cc pc = .ok (.invokevirtual 82, 3)) (kr : OKs tp (true, x 2, q_next tp z) → ∀ (x' : Nat → Rw) (H1 : Heap) (locs1 : List Loc), xR x x' → RD tp (true, x 2, q_next tp z).2.2 (x' 10) → x' 2 = (true, x 2, q_next tp z).2.1 → cX t r x' H1 → va_S (cA t) H0 H1 locs1 → W p l e R s m args below meth c H1 locs1 cells slots Q (F0 m (pc + 3) ls (rest))) (kt : ¬ OKs tp (true, x 2, q_next tp z) → ∀ (x' : Nat → Rw) (H1 : Heap) (locs1 : List Loc), xR x x' → x' 10 2 = m_fault (true, x 2, q_next tp z) → cX t r x' H1 → va_S (cA t) H0 H1 locs1 → WT p l e R s m args below meth c H1 locs1 cells slots Q (F0 m pc ls rest) (t.2.1 3)) : W p l e R s m args below meth c H locs cells slots Q (F0 m pc ls (.ref (t.2.1 1) :: rest)) := by
  exact kk_P (W.runX (As := []) (rest := rest) (maxL := 2) S (k2_next l t r x κ hA tp z hpi hu0 htz hat) rfl rfl hR.1 (by have := hR.2.1; show 8 + (2 + 11) + 38 * 6 ≤ R.locals; omega) (pay_in S.2.2.2.2 (lw_meth q1029)) (fun U hW => LocX.code (pay_in S.2.2.2.2 (lw_meth q1029) _ List.mem_cons_self #[] U hW)) (S.2.2.2.2 _ q106) ⟨by decide, by decide⟩ (show (parseMethodDescriptor yX2_next.desc).map (fun d => d.parameters.length) = some 0 from by decide +kernel) (S.2.2.2.2 _ q1026) (S.2.2.2.2 _ q1028) (S.2.2.2.2 _ qs38) ⟨sR_blind, c_recvR hK hP, sR_pre hK hP hE⟩ rfl hsz rfl (lv_room hrest) hdg ⟨hR.2.2.1, hR.2.2.2⟩) hS (fun _ h => h) kr kt
end CC

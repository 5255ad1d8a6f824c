/-! CASKS: constructors; a0 the ThunderCasks they belong to -/
theorem kX5_new (l : Launch) (o : Nat) : Met l yX5_init (ws_ yX5_init cX5_init 1 none) (rmF 1) (va_Pc [.ref o] (fun _ => True)) (kR none) 0 0 (fun _ => False) := by
  refine kk_start (by decide) (Nat.le_of_ble_eq_true rfl) ?_
  intro p e s m below meth c S hr hlk hin hB ls hl
  have hx := S.1
  have hb := S.2.1
  have hl : lv_has ls 1 [(0, .ref o)] := hl
  refine lv_aload_n hx hb dX5_init_0 rfl (lv_at hl 0 rfl) ?_
  refine W.objInit hx hb S.2.2.2.1 (S.2.2.2.2 _ q308) (S.2.2.2.2 _ q131) (S.2.2.2.2 _ q132) rfl (by rw [S.2.2.1]; exact hl.1) rfl dX5_init_1 (Nat.le_of_ble_eq_true rfl) (Nat.le_of_ble_eq_true rfl) ?_
  refine W.eq (g2 := F0 m 4 ls []) rfl ?_
  exact kk_vretR S hr hlk rfl rfl dX5_init_4
/-- of an object of class ci: what is known of its fields (two fields may have one name) -/
def obK (D : va_G) (ci o N : Nat) (K : Nat → Option Value) (H : Heap) : Prop := ∃ cell : Cell, H[o]? = some cell ∧ cell.cls = D.1 ci ∧ cell.vm = .none ∧ (∀ k, k < N → D.2 ci k < cell.slots.size) ∧ ∀ k v, k < N → K k = some v → cell.slots[D.2 ci k]? = some v
def kaB (D : va_G) (tys : List (ClassId × FieldType)) (o ci N : Nat) (K : Nat → Option Value) (U : State) : Prop := va_K D cC tys U ∧ obK D ci o N K U.heap
theorem kaB_blind {D : va_G} {tys : List (ClassId × FieldType)} {o ci N : Nat} {K : Nat → Option Value} {av : List Value} : FrameBlind (va_Pc av (kaB D tys o ci N K)) := fun a U g mk h => ⟨h.1, va_K.moved (u := U) (U := U.calling g mk a) (Vm.Alike.refl U.vm) h.2.1, h.2.2⟩
theorem kaB_pre {D : va_G} {tys : List (ClassId × FieldType)} {o ci N : Nat} {K : Nat → Option Value} {As : List Value} {s : State} {H : Heap} (hK : va_K D cC tys s) (hP : obK D ci o N K H) : ∀ U : State, U.heap = H → s.WarmedH U.vm → va_Pc As (kaB D tys o ci N K) As.toArray U := fun U hU hW => ⟨rfl, va_K.moved hW.alike hK, by rw [hU]; exact hP⟩
section KO
variable {p : Program} {l : Launch} {e : Env} {R : Room} {s : State} {m : MethodId} {args : Array Value} {below : List Frame} {meth : Method} {c : Code} {H : Heap} {locs : List Loc} {cells slots : Nat} {Q : State → Prop}
variable {cc : ByteArray} {pc nL : Nat} {ls : Array Slot} {rest : List Value} {A : Nat → Prop} {H0 : Heap} {D : va_G} {tys : List (ClassId × FieldType)}
theorem kn_putK {own ref C : String} {T : u_T} {N ci index o : Nat} {K : Nat → Option Value} (hx : p.tables.exec = Jvm.exec) (hb : c.code = cc) (hts : ∀ w ∈ lw_all, w.before args s = true) (hin : ∀ w ∈ u_ws C T N, w ∈ lw_all) (ty0 : Nat → FieldType) (hty : ∀ k, k < N → parseFieldDescriptor (T k).2.2.1 = some (ty0 k)) (hown : s.vm.findClass own = some m.cls) (hK : va_K D cC tys s) (hP : obK D ci o N K H) (hS : va_S A H0 H locs) (hA : A o) (hc : cC[ci]? = some (C, T, N)) (k : Nat) (hk : k < N)
    (hlink : (Cond.fieldLink own index ref (T k).2.1 (T k).2.2.1).before args s = true) (hsame : (T k).1 = ref) (hfin : (T k).2.2.2 = true) (hin2 : meth.name = "<init>") (hdecl : (T k).1 = own) {v : Value} (hn : narrow (ty0 k) v = v) (hfit : fits (ty0 k) v = true) (hok : ∀ j, j < N → j ≠ k → ∀ w, K j = some w → w = v ∨ (T j).2.1 ≠ (T k).2.1) (hdg : decode cc pc = .ok (.putfield index, 3))
    (kk : ∀ (H1 : Heap) (locs1 : List Loc), obK D ci o N (fun j => if j = k then some v else K j) H1 → va_S A H0 H1 locs1 → W p l e R s m args below meth c H1 locs1 cells slots Q (F0 m (pc + 3) ls rest)) : W p l e R s m args below meth c H locs cells slots Q (F0 m pc ls (v :: .ref o :: rest)) := by
  obtain ⟨cell, q1, q2, q3, q4, q5⟩ := hP
  obtain ⟨hSl, hfc, kC, hkC, hkind⟩ := hK.1 ci _ hc
  obtain ⟨cf, kf, fi, f, hi, hsl⟩ := hSl k hk
  have hlay := hts _ (hin _ (u_in_lay hk))
  unfold u_lay at hlay
  rw [if_pos hfin] at hlay
  have hst := (u_facts hfc hkC (u_lays hts hin hk) hi).1
  have hcf : m.cls = cf := by
    obtain ⟨_, _, c', _, _, _, -, -, hf', -, -, -, hown2, -⟩ := Cond.laysFinal_spec hlay
    have e1 : c' = cf := by have := hi.symm.trans hf'; simp at this; exact this.1.symm
    rw [hdecl] at hown2
    rw [← e1]; exact Option.some.inj (hown.symm.trans hown2)
  have h6 := u_fits hfc hkC hkind (Or.inr hlay) hi (hty k hk) hn hfit
  refine W.putFinK hx hb hown hlink (by rw [← hsame]; exact hi) hst hcf hin2 (by rw [q2]; exact h6) q1 q3 (by rw [hsl]; exact q4 k hk) rfl rfl hdg fun H' e1 e2 e3 => ?_
  rw [hsl] at e1 ⊢
  refine kk H' _ ⟨_, e1, q2, q3, fun j hj => ?_, fun j w hj hw => ?_⟩ (hS.put e2 e3 hA)
  · simpa [Cell.setSlot] using q4 j hj
  · have hset : ∀ i, (cell.setSlot (D.2 ci k) v).slots[i]? = if i = D.2 ci k then some v else cell.slots[i]? := fun i => by
      simp only [Cell.setSlot, Array.getElem?_setIfInBounds]
      by_cases h : D.2 ci k = i
      · rw [if_pos h, if_pos h.symm]
        exact if_pos (q4 k hk)
      · rw [if_neg h, if_neg (fun z => h z.symm)]
    have hw : (if j = k then some v else K j) = some w := hw
    rw [hset]
    by_cases hjk : j = k
    · rw [if_pos hjk] at hw
      rw [if_pos (by rw [hjk])]; exact hw
    · rw [if_neg hjk] at hw
      by_cases hs : D.2 ci j = D.2 ci k
      · rcases hok j hj hjk w hw with h | h
        · rw [if_pos hs, h]
        · exfalso
          obtain ⟨_, _, _, fb, hib, eb⟩ := hSl j hj
          refine u_apart (u_lays hts hin hj) (u_lays hts hin hk) hib hi ?_ (by rw [eb, hsl]; exact hs)
          rw [(State.fieldFound?_type hib (hty j hj)).1, (State.fieldFound?_type hi (hty k hk)).1]
          exact h
      · rw [if_neg hs]
        exact q5 j w hj hw
end KO
theorem obK.le {D : va_G} {ci o N : Nat} {K K' : Nat → Option Value} {H : Heap} (h : obK D ci o N K H) (hk : ∀ k, k < N → ∀ v, K' k = some v → K k = some v) : obK D ci o N K' H := by
  obtain ⟨cell, h1, h2, h3, h4, h5⟩ := h
  exact ⟨cell, h1, h2, h3, h4, fun k v hk' hv => h5 k v hk' (hk k hk' v hv)⟩
theorem obK.of {D : va_G} {ci o N : Nat} {C : String} {T : u_T} {fs : List Value} {H : Heap} (hc : cC[ci]? = some (C, T, N)) (h : va_at D cC (o, .inr (ci, fs)) H) : obK D ci o N (fun _ => none) H := by
  obtain ⟨r, h1, cell, q1, q2, q3, q4⟩ := h
  have hr : r = (C, T, N) := Option.some.inj (h1.symm.trans hc)
  subst hr
  exact ⟨cell, q1, q2, q3, fun k hk => k2_hasslot (q4 k hk), fun k v _ hv => by cases hv⟩
theorem obK.to {D : va_G} {ci o N : Nat} {C : String} {T : u_T} {fs : List Value} {H : Heap} (hc : cC[ci]? = some (C, T, N)) (h : obK D ci o N (fun k => some (vp_V fs k)) H) : va_at D cC (o, .inr (ci, fs)) H := by
  obtain ⟨cell, q1, q2, q3, q4, q5⟩ := h
  exact ⟨_, hc, cell, q1, q2, q3, fun k hk => q5 k _ hk rfl⟩
theorem one_S {o : Nat} {H : Heap} : va_S (fun q => q = o) H H [] := va_S.rf
set_option maxHeartbeats 4000000 in
theorem kX6_new6 (l : Launch) (D : va_G) (tys : List (ClassId × FieldType)) (o a0 n : Nat) : Met l yX6_init (ws_ yX6_init cX6_init 3 none) (rmF 1) (va_Pc [.ref o, .ref a0, .int (nI n)] (kaB D tys o 6 2 (fun k => match k with | 0 => none | 1 => none | _ => none))) (kW none (obK D 6 o 2 (fun k => match k with | 0 => some (.int (nI n)) | 1 => some (.ref a0) | _ => none)) (fun q => q = o)) 0 0 (fun q => q = o) := by
  refine kk_start (by decide) (Nat.le_of_ble_eq_true rfl) ?_
  intro p e s m below meth c S hr hlk hin hB ls hl
  obtain ⟨hK, hP⟩ := hB
  have hx := S.1
  have hb := S.2.1
  have hin := hin rfl
  have hown : s.vm.findClass RX6 = some m.cls := S.2.2.2.1
  have hts := S.2.2.2.2
  have hS : va_S (fun q => q = o) s.heap s.heap [] := va_S.rf
  have hl : lv_has ls 3 [(0, .ref o), (1, .ref a0), (2, .int (nI n))] := hl
  refine lv_aload_n hx hb dX6_init_0 rfl (lv_at hl 0 rfl) ?_
  refine lv_aload_n hx hb dX6_init_1 rfl (lv_at hl 1 rfl) ?_
  refine kn_putK hx hb hts in_X6 tyX6 tyX6_ok hown hK hP hS rfl rfl 1 (by decide) (hts _ q329) rfl rfl hin rfl rfl rfl (fun j hj hne w hw => by rcases (show j = 0 ∨ j = 1 by omega) with e | e <;> subst e <;> first | exact absurd rfl hne | (cases hw; done) | exact Or.inl (Option.some.inj hw).symm | exact Or.inr (by decide)) dX6_init_2 (fun H locs hP hS => ?_)
  refine lv_aload_n hx hb dX6_init_5 rfl (lv_at hl 0 rfl) ?_
  refine W.objInit hx hb hown (hts _ q325) (hts _ q131) (hts _ q132) rfl (by rw [S.2.2.1]; exact hl.1) rfl dX6_init_6 (Nat.le_of_ble_eq_true rfl) (Nat.le_of_ble_eq_true rfl) ?_
  refine W.eq (g2 := F0 m 9 ls []) rfl ?_
  refine lv_aload_n hx hb dX6_init_9 rfl (lv_at hl 0 rfl) ?_
  refine lv_iload_n hx hb dX6_init_10 rfl (lv_at hl 2 rfl) ?_
  refine kn_putK hx hb hts in_X6 tyX6 tyX6_ok hown hK hP hS rfl rfl 0 (by decide) (hts _ q327) rfl rfl hin rfl rfl rfl (fun j hj hne w hw => by rcases (show j = 0 ∨ j = 1 by omega) with e | e <;> subst e <;> first | exact absurd rfl hne | (cases hw; done) | exact Or.inl (Option.some.inj hw).symm | exact Or.inr (by decide)) dX6_init_11 (fun H locs hP hS => ?_)
  exact kk_vretW S hr hlk hS (hP.le (fun j hj v hv => by rcases (show j = 0 ∨ j = 1 by omega) with e | e <;> subst e <;> first | exact hv | (cases hv; done))) dX6_init_14
set_option maxHeartbeats 4000000 in
theorem kX6_new7 (l : Launch) (D : va_G) (tys : List (ClassId × FieldType)) (o a0 n : Nat) : Met l yX6_init (ws_ yX6_init cX6_init 3 none) (rmF 1) (va_Pc [.ref o, .ref a0, .int (nI n)] (kaB D tys o 7 3 (fun k => match k with | 0 => none | 1 => none | 2 => some (.ref a0) | _ => none))) (kW none (obK D 7 o 3 (fun k => match k with | 0 => some (.int (nI n)) | 1 => some (.ref a0) | 2 => some (.ref a0) | _ => none)) (fun q => q = o)) 0 0 (fun q => q = o) := by
  refine kk_start (by decide) (Nat.le_of_ble_eq_true rfl) ?_
  intro p e s m below meth c S hr hlk hin hB ls hl
  obtain ⟨hK, hP⟩ := hB
  have hx := S.1
  have hb := S.2.1
  have hin := hin rfl
  have hown : s.vm.findClass RX6 = some m.cls := S.2.2.2.1
  have hts := S.2.2.2.2
  have hS : va_S (fun q => q = o) s.heap s.heap [] := va_S.rf
  have hl : lv_has ls 3 [(0, .ref o), (1, .ref a0), (2, .int (nI n))] := hl
  refine lv_aload_n hx hb dX6_init_0 rfl (lv_at hl 0 rfl) ?_
  refine lv_aload_n hx hb dX6_init_1 rfl (lv_at hl 1 rfl) ?_
  refine kn_putK hx hb hts in_X7 tyX7 tyX7_ok hown hK hP hS rfl rfl 1 (by decide) (hts _ q329) rfl rfl hin rfl rfl rfl (fun j hj hne w hw => by rcases (show j = 0 ∨ j = 1 ∨ j = 2 by omega) with e | e | e <;> subst e <;> first | exact absurd rfl hne | (cases hw; done) | exact Or.inl (Option.some.inj hw).symm | exact Or.inr (by decide)) dX6_init_2 (fun H locs hP hS => ?_)
  refine lv_aload_n hx hb dX6_init_5 rfl (lv_at hl 0 rfl) ?_
  refine W.objInit hx hb hown (hts _ q325) (hts _ q131) (hts _ q132) rfl (by rw [S.2.2.1]; exact hl.1) rfl dX6_init_6 (Nat.le_of_ble_eq_true rfl) (Nat.le_of_ble_eq_true rfl) ?_
  refine W.eq (g2 := F0 m 9 ls []) rfl ?_
  refine lv_aload_n hx hb dX6_init_9 rfl (lv_at hl 0 rfl) ?_
  refine lv_iload_n hx hb dX6_init_10 rfl (lv_at hl 2 rfl) ?_
  refine kn_putK hx hb hts in_X7 tyX7 tyX7_ok hown hK hP hS rfl rfl 0 (by decide) (hts _ q327) rfl rfl hin rfl rfl rfl (fun j hj hne w hw => by rcases (show j = 0 ∨ j = 1 ∨ j = 2 by omega) with e | e | e <;> subst e <;> first | exact absurd rfl hne | (cases hw; done) | exact Or.inl (Option.some.inj hw).symm | exact Or.inr (by decide)) dX6_init_11 (fun H locs hP hS => ?_)
  exact kk_vretW S hr hlk hS (hP.le (fun j hj v hv => by rcases (show j = 0 ∨ j = 1 ∨ j = 2 by omega) with e | e | e <;> subst e <;> first | exact hv | (cases hv; done))) dX6_init_14
set_option maxHeartbeats 4000000 in
theorem kX6_new8 (l : Launch) (D : va_G) (tys : List (ClassId × FieldType)) (o a0 n : Nat) : Met l yX6_init (ws_ yX6_init cX6_init 3 none) (rmF 1) (va_Pc [.ref o, .ref a0, .int (nI n)] (kaB D tys o 8 3 (fun k => match k with | 0 => none | 1 => none | 2 => some (.ref a0) | _ => none))) (kW none (obK D 8 o 3 (fun k => match k with | 0 => some (.int (nI n)) | 1 => some (.ref a0) | 2 => some (.ref a0) | _ => none)) (fun q => q = o)) 0 0 (fun q => q = o) := by
  refine kk_start (by decide) (Nat.le_of_ble_eq_true rfl) ?_
  intro p e s m below meth c S hr hlk hin hB ls hl
  obtain ⟨hK, hP⟩ := hB
  have hx := S.1
  have hb := S.2.1
  have hin := hin rfl
  have hown : s.vm.findClass RX6 = some m.cls := S.2.2.2.1
  have hts := S.2.2.2.2
  have hS : va_S (fun q => q = o) s.heap s.heap [] := va_S.rf
  have hl : lv_has ls 3 [(0, .ref o), (1, .ref a0), (2, .int (nI n))] := hl
  refine lv_aload_n hx hb dX6_init_0 rfl (lv_at hl 0 rfl) ?_
  refine lv_aload_n hx hb dX6_init_1 rfl (lv_at hl 1 rfl) ?_
  refine kn_putK hx hb hts in_X8 tyX8 tyX8_ok hown hK hP hS rfl rfl 1 (by decide) (hts _ q329) rfl rfl hin rfl rfl rfl (fun j hj hne w hw => by rcases (show j = 0 ∨ j = 1 ∨ j = 2 by omega) with e | e | e <;> subst e <;> first | exact absurd rfl hne | (cases hw; done) | exact Or.inl (Option.some.inj hw).symm | exact Or.inr (by decide)) dX6_init_2 (fun H locs hP hS => ?_)
  refine lv_aload_n hx hb dX6_init_5 rfl (lv_at hl 0 rfl) ?_
  refine W.objInit hx hb hown (hts _ q325) (hts _ q131) (hts _ q132) rfl (by rw [S.2.2.1]; exact hl.1) rfl dX6_init_6 (Nat.le_of_ble_eq_true rfl) (Nat.le_of_ble_eq_true rfl) ?_
  refine W.eq (g2 := F0 m 9 ls []) rfl ?_
  refine lv_aload_n hx hb dX6_init_9 rfl (lv_at hl 0 rfl) ?_
  refine lv_iload_n hx hb dX6_init_10 rfl (lv_at hl 2 rfl) ?_
  refine kn_putK hx hb hts in_X8 tyX8 tyX8_ok hown hK hP hS rfl rfl 0 (by decide) (hts _ q327) rfl rfl hin rfl rfl rfl (fun j hj hne w hw => by rcases (show j = 0 ∨ j = 1 ∨ j = 2 by omega) with e | e | e <;> subst e <;> first | exact absurd rfl hne | (cases hw; done) | exact Or.inl (Option.some.inj hw).symm | exact Or.inr (by decide)) dX6_init_11 (fun H locs hP hS => ?_)
  exact kk_vretW S hr hlk hS (hP.le (fun j hj v hv => by rcases (show j = 0 ∨ j = 1 ∨ j = 2 by omega) with e | e | e <;> subst e <;> first | exact hv | (cases hv; done))) dX6_init_14
set_option maxHeartbeats 4000000 in
theorem kX6_new9 (l : Launch) (D : va_G) (tys : List (ClassId × FieldType)) (o a0 n : Nat) : Met l yX6_init (ws_ yX6_init cX6_init 3 none) (rmF 1) (va_Pc [.ref o, .ref a0, .int (nI n)] (kaB D tys o 9 4 (fun k => match k with | 0 => none | 1 => none | 2 => some (.ref a0) | 3 => some (.ref a0) | _ => none))) (kW none (obK D 9 o 4 (fun k => match k with | 0 => some (.int (nI n)) | 1 => some (.ref a0) | 2 => some (.ref a0) | 3 => some (.ref a0) | _ => none)) (fun q => q = o)) 0 0 (fun q => q = o) := by
  refine kk_start (by decide) (Nat.le_of_ble_eq_true rfl) ?_
  intro p e s m below meth c S hr hlk hin hB ls hl
  obtain ⟨hK, hP⟩ := hB
  have hx := S.1
  have hb := S.2.1
  have hin := hin rfl
  have hown : s.vm.findClass RX6 = some m.cls := S.2.2.2.1
  have hts := S.2.2.2.2
  have hS : va_S (fun q => q = o) s.heap s.heap [] := va_S.rf
  have hl : lv_has ls 3 [(0, .ref o), (1, .ref a0), (2, .int (nI n))] := hl
  refine lv_aload_n hx hb dX6_init_0 rfl (lv_at hl 0 rfl) ?_
  refine lv_aload_n hx hb dX6_init_1 rfl (lv_at hl 1 rfl) ?_
  refine kn_putK hx hb hts in_X9 tyX9 tyX9_ok hown hK hP hS rfl rfl 1 (by decide) (hts _ q329) rfl rfl hin rfl rfl rfl (fun j hj hne w hw => by rcases (show j = 0 ∨ j = 1 ∨ j = 2 ∨ j = 3 by omega) with e | e | e | e <;> subst e <;> first | exact absurd rfl hne | (cases hw; done) | exact Or.inl (Option.some.inj hw).symm | exact Or.inr (by decide)) dX6_init_2 (fun H locs hP hS => ?_)
  refine lv_aload_n hx hb dX6_init_5 rfl (lv_at hl 0 rfl) ?_
  refine W.objInit hx hb hown (hts _ q325) (hts _ q131) (hts _ q132) rfl (by rw [S.2.2.1]; exact hl.1) rfl dX6_init_6 (Nat.le_of_ble_eq_true rfl) (Nat.le_of_ble_eq_true rfl) ?_
  refine W.eq (g2 := F0 m 9 ls []) rfl ?_
  refine lv_aload_n hx hb dX6_init_9 rfl (lv_at hl 0 rfl) ?_
  refine lv_iload_n hx hb dX6_init_10 rfl (lv_at hl 2 rfl) ?_
  refine kn_putK hx hb hts in_X9 tyX9 tyX9_ok hown hK hP hS rfl rfl 0 (by decide) (hts _ q327) rfl rfl hin rfl rfl rfl (fun j hj hne w hw => by rcases (show j = 0 ∨ j = 1 ∨ j = 2 ∨ j = 3 by omega) with e | e | e | e <;> subst e <;> first | exact absurd rfl hne | (cases hw; done) | exact Or.inl (Option.some.inj hw).symm | exact Or.inr (by decide)) dX6_init_11 (fun H locs hP hS => ?_)
  exact kk_vretW S hr hlk hS (hP.le (fun j hj v hv => by rcases (show j = 0 ∨ j = 1 ∨ j = 2 ∨ j = 3 by omega) with e | e | e | e <;> subst e <;> first | exact hv | (cases hv; done))) dX6_init_14
set_option maxHeartbeats 4000000 in
theorem kX6_new10 (l : Launch) (D : va_G) (tys : List (ClassId × FieldType)) (o a0 n : Nat) : Met l yX6_init (ws_ yX6_init cX6_init 3 none) (rmF 1) (va_Pc [.ref o, .ref a0, .int (nI n)] (kaB D tys o 10 5 (fun k => match k with | 0 => none | 1 => none | 2 => some (.ref a0) | 3 => some (.ref a0) | 4 => some (.ref a0) | _ => none))) (kW none (obK D 10 o 5 (fun k => match k with | 0 => some (.int (nI n)) | 1 => some (.ref a0) | 2 => some (.ref a0) | 3 => some (.ref a0) | 4 => some (.ref a0) | _ => none)) (fun q => q = o)) 0 0 (fun q => q = o) := by
  refine kk_start (by decide) (Nat.le_of_ble_eq_true rfl) ?_
  intro p e s m below meth c S hr hlk hin hB ls hl
  obtain ⟨hK, hP⟩ := hB
  have hx := S.1
  have hb := S.2.1
  have hin := hin rfl
  have hown : s.vm.findClass RX6 = some m.cls := S.2.2.2.1
  have hts := S.2.2.2.2
  have hS : va_S (fun q => q = o) s.heap s.heap [] := va_S.rf
  have hl : lv_has ls 3 [(0, .ref o), (1, .ref a0), (2, .int (nI n))] := hl
  refine lv_aload_n hx hb dX6_init_0 rfl (lv_at hl 0 rfl) ?_
  refine lv_aload_n hx hb dX6_init_1 rfl (lv_at hl 1 rfl) ?_
  refine kn_putK hx hb hts in_X10 tyX10 tyX10_ok hown hK hP hS rfl rfl 1 (by decide) (hts _ q329) rfl rfl hin rfl rfl rfl (fun j hj hne w hw => by rcases (show j = 0 ∨ j = 1 ∨ j = 2 ∨ j = 3 ∨ j = 4 by omega) with e | e | e | e | e <;> subst e <;> first | exact absurd rfl hne | (cases hw; done) | exact Or.inl (Option.some.inj hw).symm | exact Or.inr (by decide)) dX6_init_2 (fun H locs hP hS => ?_)
  refine lv_aload_n hx hb dX6_init_5 rfl (lv_at hl 0 rfl) ?_
  refine W.objInit hx hb hown (hts _ q325) (hts _ q131) (hts _ q132) rfl (by rw [S.2.2.1]; exact hl.1) rfl dX6_init_6 (Nat.le_of_ble_eq_true rfl) (Nat.le_of_ble_eq_true rfl) ?_
  refine W.eq (g2 := F0 m 9 ls []) rfl ?_
  refine lv_aload_n hx hb dX6_init_9 rfl (lv_at hl 0 rfl) ?_
  refine lv_iload_n hx hb dX6_init_10 rfl (lv_at hl 2 rfl) ?_
  refine kn_putK hx hb hts in_X10 tyX10 tyX10_ok hown hK hP hS rfl rfl 0 (by decide) (hts _ q327) rfl rfl hin rfl rfl rfl (fun j hj hne w hw => by rcases (show j = 0 ∨ j = 1 ∨ j = 2 ∨ j = 3 ∨ j = 4 by omega) with e | e | e | e | e <;> subst e <;> first | exact absurd rfl hne | (cases hw; done) | exact Or.inl (Option.some.inj hw).symm | exact Or.inr (by decide)) dX6_init_11 (fun H locs hP hS => ?_)
  exact kk_vretW S hr hlk hS (hP.le (fun j hj v hv => by rcases (show j = 0 ∨ j = 1 ∨ j = 2 ∨ j = 3 ∨ j = 4 by omega) with e | e | e | e | e <;> subst e <;> first | exact hv | (cases hv; done))) dX6_init_14
set_option maxHeartbeats 4000000 in
theorem kX6_new11 (l : Launch) (D : va_G) (tys : List (ClassId × FieldType)) (o a0 n : Nat) : Met l yX6_init (ws_ yX6_init cX6_init 3 none) (rmF 1) (va_Pc [.ref o, .ref a0, .int (nI n)] (kaB D tys o 11 3 (fun k => match k with | 0 => none | 1 => none | 2 => some (.ref a0) | _ => none))) (kW none (obK D 11 o 3 (fun k => match k with | 0 => some (.int (nI n)) | 1 => some (.ref a0) | 2 => some (.ref a0) | _ => none)) (fun q => q = o)) 0 0 (fun q => q = o) := by
  refine kk_start (by decide) (Nat.le_of_ble_eq_true rfl) ?_
  intro p e s m below meth c S hr hlk hin hB ls hl
  obtain ⟨hK, hP⟩ := hB
  have hx := S.1
  have hb := S.2.1
  have hin := hin rfl
  have hown : s.vm.findClass RX6 = some m.cls := S.2.2.2.1
  have hts := S.2.2.2.2
  have hS : va_S (fun q => q = o) s.heap s.heap [] := va_S.rf
  have hl : lv_has ls 3 [(0, .ref o), (1, .ref a0), (2, .int (nI n))] := hl
  refine lv_aload_n hx hb dX6_init_0 rfl (lv_at hl 0 rfl) ?_
  refine lv_aload_n hx hb dX6_init_1 rfl (lv_at hl 1 rfl) ?_
  refine kn_putK hx hb hts in_X11 tyX11 tyX11_ok hown hK hP hS rfl rfl 1 (by decide) (hts _ q329) rfl rfl hin rfl rfl rfl (fun j hj hne w hw => by rcases (show j = 0 ∨ j = 1 ∨ j = 2 by omega) with e | e | e <;> subst e <;> first | exact absurd rfl hne | (cases hw; done) | exact Or.inl (Option.some.inj hw).symm | exact Or.inr (by decide)) dX6_init_2 (fun H locs hP hS => ?_)
  refine lv_aload_n hx hb dX6_init_5 rfl (lv_at hl 0 rfl) ?_
  refine W.objInit hx hb hown (hts _ q325) (hts _ q131) (hts _ q132) rfl (by rw [S.2.2.1]; exact hl.1) rfl dX6_init_6 (Nat.le_of_ble_eq_true rfl) (Nat.le_of_ble_eq_true rfl) ?_
  refine W.eq (g2 := F0 m 9 ls []) rfl ?_
  refine lv_aload_n hx hb dX6_init_9 rfl (lv_at hl 0 rfl) ?_
  refine lv_iload_n hx hb dX6_init_10 rfl (lv_at hl 2 rfl) ?_
  refine kn_putK hx hb hts in_X11 tyX11 tyX11_ok hown hK hP hS rfl rfl 0 (by decide) (hts _ q327) rfl rfl hin rfl rfl rfl (fun j hj hne w hw => by rcases (show j = 0 ∨ j = 1 ∨ j = 2 by omega) with e | e | e <;> subst e <;> first | exact absurd rfl hne | (cases hw; done) | exact Or.inl (Option.some.inj hw).symm | exact Or.inr (by decide)) dX6_init_11 (fun H locs hP hS => ?_)
  exact kk_vretW S hr hlk hS (hP.le (fun j hj v hv => by rcases (show j = 0 ∨ j = 1 ∨ j = 2 by omega) with e | e | e <;> subst e <;> first | exact hv | (cases hv; done))) dX6_init_14
set_option maxHeartbeats 4000000 in
theorem kX6_new12 (l : Launch) (D : va_G) (tys : List (ClassId × FieldType)) (o a0 n : Nat) : Met l yX6_init (ws_ yX6_init cX6_init 3 none) (rmF 1) (va_Pc [.ref o, .ref a0, .int (nI n)] (kaB D tys o 12 4 (fun k => match k with | 0 => none | 1 => none | 2 => some (.ref a0) | 3 => some (.ref a0) | _ => none))) (kW none (obK D 12 o 4 (fun k => match k with | 0 => some (.int (nI n)) | 1 => some (.ref a0) | 2 => some (.ref a0) | 3 => some (.ref a0) | _ => none)) (fun q => q = o)) 0 0 (fun q => q = o) := by
  refine kk_start (by decide) (Nat.le_of_ble_eq_true rfl) ?_
  intro p e s m below meth c S hr hlk hin hB ls hl
  obtain ⟨hK, hP⟩ := hB
  have hx := S.1
  have hb := S.2.1
  have hin := hin rfl
  have hown : s.vm.findClass RX6 = some m.cls := S.2.2.2.1
  have hts := S.2.2.2.2
  have hS : va_S (fun q => q = o) s.heap s.heap [] := va_S.rf
  have hl : lv_has ls 3 [(0, .ref o), (1, .ref a0), (2, .int (nI n))] := hl
  refine lv_aload_n hx hb dX6_init_0 rfl (lv_at hl 0 rfl) ?_
  refine lv_aload_n hx hb dX6_init_1 rfl (lv_at hl 1 rfl) ?_
  refine kn_putK hx hb hts in_X12 tyX12 tyX12_ok hown hK hP hS rfl rfl 1 (by decide) (hts _ q329) rfl rfl hin rfl rfl rfl (fun j hj hne w hw => by rcases (show j = 0 ∨ j = 1 ∨ j = 2 ∨ j = 3 by omega) with e | e | e | e <;> subst e <;> first | exact absurd rfl hne | (cases hw; done) | exact Or.inl (Option.some.inj hw).symm | exact Or.inr (by decide)) dX6_init_2 (fun H locs hP hS => ?_)
  refine lv_aload_n hx hb dX6_init_5 rfl (lv_at hl 0 rfl) ?_
  refine W.objInit hx hb hown (hts _ q325) (hts _ q131) (hts _ q132) rfl (by rw [S.2.2.1]; exact hl.1) rfl dX6_init_6 (Nat.le_of_ble_eq_true rfl) (Nat.le_of_ble_eq_true rfl) ?_
  refine W.eq (g2 := F0 m 9 ls []) rfl ?_
  refine lv_aload_n hx hb dX6_init_9 rfl (lv_at hl 0 rfl) ?_
  refine lv_iload_n hx hb dX6_init_10 rfl (lv_at hl 2 rfl) ?_
  refine kn_putK hx hb hts in_X12 tyX12 tyX12_ok hown hK hP hS rfl rfl 0 (by decide) (hts _ q327) rfl rfl hin rfl rfl rfl (fun j hj hne w hw => by rcases (show j = 0 ∨ j = 1 ∨ j = 2 ∨ j = 3 by omega) with e | e | e | e <;> subst e <;> first | exact absurd rfl hne | (cases hw; done) | exact Or.inl (Option.some.inj hw).symm | exact Or.inr (by decide)) dX6_init_11 (fun H locs hP hS => ?_)
  exact kk_vretW S hr hlk hS (hP.le (fun j hj v hv => by rcases (show j = 0 ∨ j = 1 ∨ j = 2 ∨ j = 3 by omega) with e | e | e | e <;> subst e <;> first | exact hv | (cases hv; done))) dX6_init_14
set_option maxHeartbeats 4000000 in
theorem kX7_new7 (l : Launch) (D : va_G) (tys : List (ClassId × FieldType)) (o a0 n : Nat) : Met l yX7_init (ws_ yX7_init cX7_init 3 none) (rmF 2) (va_Pc [.ref o, .ref a0, .int (nI n)] (kaB D tys o 7 3 (fun k => match k with | 0 => none | 1 => none | 2 => none | _ => none))) (kW none (obK D 7 o 3 (fun k => match k with | 0 => some (.int (nI n)) | 1 => some (.ref a0) | 2 => some (.ref a0) | _ => none)) (fun q => q = o)) 0 0 (fun q => q = o) := by
  refine kk_start (by decide) (Nat.le_of_ble_eq_true rfl) ?_
  intro p e s m below meth c S hr hlk hin hB ls hl
  obtain ⟨hK, hP⟩ := hB
  have hx := S.1
  have hb := S.2.1
  have hin := hin rfl
  have hown : s.vm.findClass RX7 = some m.cls := S.2.2.2.1
  have hts := S.2.2.2.2
  have hS : va_S (fun q => q = o) s.heap s.heap [] := va_S.rf
  have hl : lv_has ls 3 [(0, .ref o), (1, .ref a0), (2, .int (nI n))] := hl
  refine lv_aload_n hx hb dX7_init_0 rfl (lv_at hl 0 rfl) ?_
  refine lv_aload_n hx hb dX7_init_1 rfl (lv_at hl 1 rfl) ?_
  refine kn_putK hx hb hts in_X7 tyX7 tyX7_ok hown hK hP hS rfl rfl 2 (by decide) (hts _ q326) rfl rfl hin rfl rfl rfl (fun j hj hne w hw => by rcases (show j = 0 ∨ j = 1 ∨ j = 2 by omega) with e | e | e <;> subst e <;> first | exact absurd rfl hne | (cases hw; done) | exact Or.inl (Option.some.inj hw).symm | exact Or.inr (by decide)) dX7_init_2 (fun H locs hP hS => ?_)
  refine lv_aload_n hx hb dX7_init_5 rfl (lv_at hl 0 rfl) ?_
  refine lv_aload_n hx hb dX7_init_6 rfl (lv_at hl 1 rfl) ?_
  refine lv_iload_n hx hb dX7_init_7 rfl (lv_at hl 2 rfl) ?_
  refine kk_Wv (W.runI (As := [.ref a0, .int (nI n)]) (rest := []) S (kX6_new7 l D tys o a0 n) (cwI 2 hts (lw_meth q324) rfl rfl rfl (hts _ q110) (hts _ q322) (hts _ q323) rfl (by decide +kernel) ⟨Nat.le_of_ble_eq_true rfl, Nat.le_of_ble_eq_true rfl⟩) ⟨kaB_blind, kaB_pre hK (hP.le (fun j hj v hv => by rcases (show j = 0 ∨ j = 1 ∨ j = 2 by omega) with e | e | e <;> subst e <;> first | exact hv | (cases hv; done)))⟩ rfl rfl hl.1 rfl (Nat.le_of_ble_eq_true rfl) dX7_init_8 ⟨Nat.le_of_ble_eq_true rfl, Nat.le_of_ble_eq_true rfl⟩) hS (fun _ h => h) (fun _ h => h) (fun H1 locs1 hB _ _ hS => ?_)
  exact kk_vretW S hr hlk hS hB dX7_init_11
set_option maxHeartbeats 4000000 in
theorem kX7_new12 (l : Launch) (D : va_G) (tys : List (ClassId × FieldType)) (o a0 n : Nat) : Met l yX7_init (ws_ yX7_init cX7_init 3 none) (rmF 2) (va_Pc [.ref o, .ref a0, .int (nI n)] (kaB D tys o 12 4 (fun k => match k with | 0 => none | 1 => none | 2 => none | 3 => some (.ref a0) | _ => none))) (kW none (obK D 12 o 4 (fun k => match k with | 0 => some (.int (nI n)) | 1 => some (.ref a0) | 2 => some (.ref a0) | 3 => some (.ref a0) | _ => none)) (fun q => q = o)) 0 0 (fun q => q = o) := by
  refine kk_start (by decide) (Nat.le_of_ble_eq_true rfl) ?_
  intro p e s m below meth c S hr hlk hin hB ls hl
  obtain ⟨hK, hP⟩ := hB
  have hx := S.1
  have hb := S.2.1
  have hin := hin rfl
  have hown : s.vm.findClass RX7 = some m.cls := S.2.2.2.1
  have hts := S.2.2.2.2
  have hS : va_S (fun q => q = o) s.heap s.heap [] := va_S.rf
  have hl : lv_has ls 3 [(0, .ref o), (1, .ref a0), (2, .int (nI n))] := hl
  refine lv_aload_n hx hb dX7_init_0 rfl (lv_at hl 0 rfl) ?_
  refine lv_aload_n hx hb dX7_init_1 rfl (lv_at hl 1 rfl) ?_
  refine kn_putK hx hb hts in_X12 tyX12 tyX12_ok hown hK hP hS rfl rfl 2 (by decide) (hts _ q326) rfl rfl hin rfl rfl rfl (fun j hj hne w hw => by rcases (show j = 0 ∨ j = 1 ∨ j = 2 ∨ j = 3 by omega) with e | e | e | e <;> subst e <;> first | exact absurd rfl hne | (cases hw; done) | exact Or.inl (Option.some.inj hw).symm | exact Or.inr (by decide)) dX7_init_2 (fun H locs hP hS => ?_)
  refine lv_aload_n hx hb dX7_init_5 rfl (lv_at hl 0 rfl) ?_
  refine lv_aload_n hx hb dX7_init_6 rfl (lv_at hl 1 rfl) ?_
  refine lv_iload_n hx hb dX7_init_7 rfl (lv_at hl 2 rfl) ?_
  refine kk_Wv (W.runI (As := [.ref a0, .int (nI n)]) (rest := []) S (kX6_new12 l D tys o a0 n) (cwI 2 hts (lw_meth q324) rfl rfl rfl (hts _ q110) (hts _ q322) (hts _ q323) rfl (by decide +kernel) ⟨Nat.le_of_ble_eq_true rfl, Nat.le_of_ble_eq_true rfl⟩) ⟨kaB_blind, kaB_pre hK (hP.le (fun j hj v hv => by rcases (show j = 0 ∨ j = 1 ∨ j = 2 ∨ j = 3 by omega) with e | e | e | e <;> subst e <;> first | exact hv | (cases hv; done)))⟩ rfl rfl hl.1 rfl (Nat.le_of_ble_eq_true rfl) dX7_init_8 ⟨Nat.le_of_ble_eq_true rfl, Nat.le_of_ble_eq_true rfl⟩) hS (fun _ h => h) (fun _ h => h) (fun H1 locs1 hB _ _ hS => ?_)
  exact kk_vretW S hr hlk hS hB dX7_init_11
set_option maxHeartbeats 4000000 in
theorem kX8_new8 (l : Launch) (D : va_G) (tys : List (ClassId × FieldType)) (o a0 n : Nat) : Met l yX8_init (ws_ yX8_init cX8_init 3 none) (rmF 2) (va_Pc [.ref o, .ref a0, .int (nI n)] (kaB D tys o 8 3 (fun k => match k with | 0 => none | 1 => none | 2 => none | _ => none))) (kW none (obK D 8 o 3 (fun k => match k with | 0 => some (.int (nI n)) | 1 => some (.ref a0) | 2 => some (.ref a0) | _ => none)) (fun q => q = o)) 0 0 (fun q => q = o) := by
  refine kk_start (by decide) (Nat.le_of_ble_eq_true rfl) ?_
  intro p e s m below meth c S hr hlk hin hB ls hl
  obtain ⟨hK, hP⟩ := hB
  have hx := S.1
  have hb := S.2.1
  have hin := hin rfl
  have hown : s.vm.findClass RX8 = some m.cls := S.2.2.2.1
  have hts := S.2.2.2.2
  have hS : va_S (fun q => q = o) s.heap s.heap [] := va_S.rf
  have hl : lv_has ls 3 [(0, .ref o), (1, .ref a0), (2, .int (nI n))] := hl
  refine lv_aload_n hx hb dX8_init_0 rfl (lv_at hl 0 rfl) ?_
  refine lv_aload_n hx hb dX8_init_1 rfl (lv_at hl 1 rfl) ?_
  refine kn_putK hx hb hts in_X8 tyX8 tyX8_ok hown hK hP hS rfl rfl 2 (by decide) (hts _ q343) rfl rfl hin rfl rfl rfl (fun j hj hne w hw => by rcases (show j = 0 ∨ j = 1 ∨ j = 2 by omega) with e | e | e <;> subst e <;> first | exact absurd rfl hne | (cases hw; done) | exact Or.inl (Option.some.inj hw).symm | exact Or.inr (by decide)) dX8_init_2 (fun H locs hP hS => ?_)
  refine lv_aload_n hx hb dX8_init_5 rfl (lv_at hl 0 rfl) ?_
  refine lv_aload_n hx hb dX8_init_6 rfl (lv_at hl 1 rfl) ?_
  refine lv_iload_n hx hb dX8_init_7 rfl (lv_at hl 2 rfl) ?_
  refine kk_Wv (W.runI (As := [.ref a0, .int (nI n)]) (rest := []) S (kX6_new8 l D tys o a0 n) (cwI 2 hts (lw_meth q324) rfl rfl rfl (hts _ q110) (hts _ q342) (hts _ q323) rfl (by decide +kernel) ⟨Nat.le_of_ble_eq_true rfl, Nat.le_of_ble_eq_true rfl⟩) ⟨kaB_blind, kaB_pre hK (hP.le (fun j hj v hv => by rcases (show j = 0 ∨ j = 1 ∨ j = 2 by omega) with e | e | e <;> subst e <;> first | exact hv | (cases hv; done)))⟩ rfl rfl hl.1 rfl (Nat.le_of_ble_eq_true rfl) dX8_init_8 ⟨Nat.le_of_ble_eq_true rfl, Nat.le_of_ble_eq_true rfl⟩) hS (fun _ h => h) (fun _ h => h) (fun H1 locs1 hB _ _ hS => ?_)
  exact kk_vretW S hr hlk hS hB dX8_init_11
set_option maxHeartbeats 4000000 in
theorem kX8_new9 (l : Launch) (D : va_G) (tys : List (ClassId × FieldType)) (o a0 n : Nat) : Met l yX8_init (ws_ yX8_init cX8_init 3 none) (rmF 2) (va_Pc [.ref o, .ref a0, .int (nI n)] (kaB D tys o 9 4 (fun k => match k with | 0 => none | 1 => none | 2 => none | 3 => some (.ref a0) | _ => none))) (kW none (obK D 9 o 4 (fun k => match k with | 0 => some (.int (nI n)) | 1 => some (.ref a0) | 2 => some (.ref a0) | 3 => some (.ref a0) | _ => none)) (fun q => q = o)) 0 0 (fun q => q = o) := by
  refine kk_start (by decide) (Nat.le_of_ble_eq_true rfl) ?_
  intro p e s m below meth c S hr hlk hin hB ls hl
  obtain ⟨hK, hP⟩ := hB
  have hx := S.1
  have hb := S.2.1
  have hin := hin rfl
  have hown : s.vm.findClass RX8 = some m.cls := S.2.2.2.1
  have hts := S.2.2.2.2
  have hS : va_S (fun q => q = o) s.heap s.heap [] := va_S.rf
  have hl : lv_has ls 3 [(0, .ref o), (1, .ref a0), (2, .int (nI n))] := hl
  refine lv_aload_n hx hb dX8_init_0 rfl (lv_at hl 0 rfl) ?_
  refine lv_aload_n hx hb dX8_init_1 rfl (lv_at hl 1 rfl) ?_
  refine kn_putK hx hb hts in_X9 tyX9 tyX9_ok hown hK hP hS rfl rfl 2 (by decide) (hts _ q343) rfl rfl hin rfl rfl rfl (fun j hj hne w hw => by rcases (show j = 0 ∨ j = 1 ∨ j = 2 ∨ j = 3 by omega) with e | e | e | e <;> subst e <;> first | exact absurd rfl hne | (cases hw; done) | exact Or.inl (Option.some.inj hw).symm | exact Or.inr (by decide)) dX8_init_2 (fun H locs hP hS => ?_)
  refine lv_aload_n hx hb dX8_init_5 rfl (lv_at hl 0 rfl) ?_
  refine lv_aload_n hx hb dX8_init_6 rfl (lv_at hl 1 rfl) ?_
  refine lv_iload_n hx hb dX8_init_7 rfl (lv_at hl 2 rfl) ?_
  refine kk_Wv (W.runI (As := [.ref a0, .int (nI n)]) (rest := []) S (kX6_new9 l D tys o a0 n) (cwI 2 hts (lw_meth q324) rfl rfl rfl (hts _ q110) (hts _ q342) (hts _ q323) rfl (by decide +kernel) ⟨Nat.le_of_ble_eq_true rfl, Nat.le_of_ble_eq_true rfl⟩) ⟨kaB_blind, kaB_pre hK (hP.le (fun j hj v hv => by rcases (show j = 0 ∨ j = 1 ∨ j = 2 ∨ j = 3 by omega) with e | e | e | e <;> subst e <;> first | exact hv | (cases hv; done)))⟩ rfl rfl hl.1 rfl (Nat.le_of_ble_eq_true rfl) dX8_init_8 ⟨Nat.le_of_ble_eq_true rfl, Nat.le_of_ble_eq_true rfl⟩) hS (fun _ h => h) (fun _ h => h) (fun H1 locs1 hB _ _ hS => ?_)
  exact kk_vretW S hr hlk hS hB dX8_init_11
set_option maxHeartbeats 4000000 in
theorem kX8_new10 (l : Launch) (D : va_G) (tys : List (ClassId × FieldType)) (o a0 n : Nat) : Met l yX8_init (ws_ yX8_init cX8_init 3 none) (rmF 2) (va_Pc [.ref o, .ref a0, .int (nI n)] (kaB D tys o 10 5 (fun k => match k with | 0 => none | 1 => none | 2 => none | 3 => some (.ref a0) | 4 => some (.ref a0) | _ => none))) (kW none (obK D 10 o 5 (fun k => match k with | 0 => some (.int (nI n)) | 1 => some (.ref a0) | 2 => some (.ref a0) | 3 => some (.ref a0) | 4 => some (.ref a0) | _ => none)) (fun q => q = o)) 0 0 (fun q => q = o) := by
  refine kk_start (by decide) (Nat.le_of_ble_eq_true rfl) ?_
  intro p e s m below meth c S hr hlk hin hB ls hl
  obtain ⟨hK, hP⟩ := hB
  have hx := S.1
  have hb := S.2.1
  have hin := hin rfl
  have hown : s.vm.findClass RX8 = some m.cls := S.2.2.2.1
  have hts := S.2.2.2.2
  have hS : va_S (fun q => q = o) s.heap s.heap [] := va_S.rf
  have hl : lv_has ls 3 [(0, .ref o), (1, .ref a0), (2, .int (nI n))] := hl
  refine lv_aload_n hx hb dX8_init_0 rfl (lv_at hl 0 rfl) ?_
  refine lv_aload_n hx hb dX8_init_1 rfl (lv_at hl 1 rfl) ?_
  refine kn_putK hx hb hts in_X10 tyX10 tyX10_ok hown hK hP hS rfl rfl 2 (by decide) (hts _ q343) rfl rfl hin rfl rfl rfl (fun j hj hne w hw => by rcases (show j = 0 ∨ j = 1 ∨ j = 2 ∨ j = 3 ∨ j = 4 by omega) with e | e | e | e | e <;> subst e <;> first | exact absurd rfl hne | (cases hw; done) | exact Or.inl (Option.some.inj hw).symm | exact Or.inr (by decide)) dX8_init_2 (fun H locs hP hS => ?_)
  refine lv_aload_n hx hb dX8_init_5 rfl (lv_at hl 0 rfl) ?_
  refine lv_aload_n hx hb dX8_init_6 rfl (lv_at hl 1 rfl) ?_
  refine lv_iload_n hx hb dX8_init_7 rfl (lv_at hl 2 rfl) ?_
  refine kk_Wv (W.runI (As := [.ref a0, .int (nI n)]) (rest := []) S (kX6_new10 l D tys o a0 n) (cwI 2 hts (lw_meth q324) rfl rfl rfl (hts _ q110) (hts _ q342) (hts _ q323) rfl (by decide +kernel) ⟨Nat.le_of_ble_eq_true rfl, Nat.le_of_ble_eq_true rfl⟩) ⟨kaB_blind, kaB_pre hK (hP.le (fun j hj v hv => by rcases (show j = 0 ∨ j = 1 ∨ j = 2 ∨ j = 3 ∨ j = 4 by omega) with e | e | e | e | e <;> subst e <;> first | exact hv | (cases hv; done)))⟩ rfl rfl hl.1 rfl (Nat.le_of_ble_eq_true rfl) dX8_init_8 ⟨Nat.le_of_ble_eq_true rfl, Nat.le_of_ble_eq_true rfl⟩) hS (fun _ h => h) (fun _ h => h) (fun H1 locs1 hB _ _ hS => ?_)
  exact kk_vretW S hr hlk hS hB dX8_init_11
set_option maxHeartbeats 4000000 in
theorem kX9_new9 (l : Launch) (D : va_G) (tys : List (ClassId × FieldType)) (o a0 n : Nat) : Met l yX9_init (ws_ yX9_init cX9_init 3 none) (rmF 3) (va_Pc [.ref o, .ref a0, .int (nI n)] (kaB D tys o 9 4 (fun k => match k with | 0 => none | 1 => none | 2 => none | 3 => none | _ => none))) (kW none (obK D 9 o 4 (fun k => match k with | 0 => some (.int (nI n)) | 1 => some (.ref a0) | 2 => some (.ref a0) | 3 => some (.ref a0) | _ => none)) (fun q => q = o)) 0 0 (fun q => q = o) := by
  refine kk_start (by decide) (Nat.le_of_ble_eq_true rfl) ?_
  intro p e s m below meth c S hr hlk hin hB ls hl
  obtain ⟨hK, hP⟩ := hB
  have hx := S.1
  have hb := S.2.1
  have hin := hin rfl
  have hown : s.vm.findClass RX9 = some m.cls := S.2.2.2.1
  have hts := S.2.2.2.2
  have hS : va_S (fun q => q = o) s.heap s.heap [] := va_S.rf
  have hl : lv_has ls 3 [(0, .ref o), (1, .ref a0), (2, .int (nI n))] := hl
  refine lv_aload_n hx hb dX9_init_0 rfl (lv_at hl 0 rfl) ?_
  refine lv_aload_n hx hb dX9_init_1 rfl (lv_at hl 1 rfl) ?_
  refine kn_putK hx hb hts in_X9 tyX9 tyX9_ok hown hK hP hS rfl rfl 3 (by decide) (hts _ q355) rfl rfl hin rfl rfl rfl (fun j hj hne w hw => by rcases (show j = 0 ∨ j = 1 ∨ j = 2 ∨ j = 3 by omega) with e | e | e | e <;> subst e <;> first | exact absurd rfl hne | (cases hw; done) | exact Or.inl (Option.some.inj hw).symm | exact Or.inr (by decide)) dX9_init_2 (fun H locs hP hS => ?_)
  refine lv_aload_n hx hb dX9_init_5 rfl (lv_at hl 0 rfl) ?_
  refine lv_aload_n hx hb dX9_init_6 rfl (lv_at hl 1 rfl) ?_
  refine lv_iload_n hx hb dX9_init_7 rfl (lv_at hl 2 rfl) ?_
  refine kk_Wv (W.runI (As := [.ref a0, .int (nI n)]) (rest := []) S (kX8_new9 l D tys o a0 n) (cwI 2 hts (lw_meth q341) rfl rfl rfl (hts _ q112) (hts _ q354) (hts _ q340) rfl (by decide +kernel) ⟨Nat.le_of_ble_eq_true rfl, Nat.le_of_ble_eq_true rfl⟩) ⟨kaB_blind, kaB_pre hK (hP.le (fun j hj v hv => by rcases (show j = 0 ∨ j = 1 ∨ j = 2 ∨ j = 3 by omega) with e | e | e | e <;> subst e <;> first | exact hv | (cases hv; done)))⟩ rfl rfl hl.1 rfl (Nat.le_of_ble_eq_true rfl) dX9_init_8 ⟨Nat.le_of_ble_eq_true rfl, Nat.le_of_ble_eq_true rfl⟩) hS (fun _ h => h) (fun _ h => h) (fun H1 locs1 hB _ _ hS => ?_)
  exact kk_vretW S hr hlk hS hB dX9_init_11
set_option maxHeartbeats 4000000 in
theorem kX9_new10 (l : Launch) (D : va_G) (tys : List (ClassId × FieldType)) (o a0 n : Nat) : Met l yX9_init (ws_ yX9_init cX9_init 3 none) (rmF 3) (va_Pc [.ref o, .ref a0, .int (nI n)] (kaB D tys o 10 5 (fun k => match k with | 0 => none | 1 => none | 2 => none | 3 => none | 4 => some (.ref a0) | _ => none))) (kW none (obK D 10 o 5 (fun k => match k with | 0 => some (.int (nI n)) | 1 => some (.ref a0) | 2 => some (.ref a0) | 3 => some (.ref a0) | 4 => some (.ref a0) | _ => none)) (fun q => q = o)) 0 0 (fun q => q = o) := by
  refine kk_start (by decide) (Nat.le_of_ble_eq_true rfl) ?_
  intro p e s m below meth c S hr hlk hin hB ls hl
  obtain ⟨hK, hP⟩ := hB
  have hx := S.1
  have hb := S.2.1
  have hin := hin rfl
  have hown : s.vm.findClass RX9 = some m.cls := S.2.2.2.1
  have hts := S.2.2.2.2
  have hS : va_S (fun q => q = o) s.heap s.heap [] := va_S.rf
  have hl : lv_has ls 3 [(0, .ref o), (1, .ref a0), (2, .int (nI n))] := hl
  refine lv_aload_n hx hb dX9_init_0 rfl (lv_at hl 0 rfl) ?_
  refine lv_aload_n hx hb dX9_init_1 rfl (lv_at hl 1 rfl) ?_
  refine kn_putK hx hb hts in_X10 tyX10 tyX10_ok hown hK hP hS rfl rfl 3 (by decide) (hts _ q355) rfl rfl hin rfl rfl rfl (fun j hj hne w hw => by rcases (show j = 0 ∨ j = 1 ∨ j = 2 ∨ j = 3 ∨ j = 4 by omega) with e | e | e | e | e <;> subst e <;> first | exact absurd rfl hne | (cases hw; done) | exact Or.inl (Option.some.inj hw).symm | exact Or.inr (by decide)) dX9_init_2 (fun H locs hP hS => ?_)
  refine lv_aload_n hx hb dX9_init_5 rfl (lv_at hl 0 rfl) ?_
  refine lv_aload_n hx hb dX9_init_6 rfl (lv_at hl 1 rfl) ?_
  refine lv_iload_n hx hb dX9_init_7 rfl (lv_at hl 2 rfl) ?_
  refine kk_Wv (W.runI (As := [.ref a0, .int (nI n)]) (rest := []) S (kX8_new10 l D tys o a0 n) (cwI 2 hts (lw_meth q341) rfl rfl rfl (hts _ q112) (hts _ q354) (hts _ q340) rfl (by decide +kernel) ⟨Nat.le_of_ble_eq_true rfl, Nat.le_of_ble_eq_true rfl⟩) ⟨kaB_blind, kaB_pre hK (hP.le (fun j hj v hv => by rcases (show j = 0 ∨ j = 1 ∨ j = 2 ∨ j = 3 ∨ j = 4 by omega) with e | e | e | e | e <;> subst e <;> first | exact hv | (cases hv; done)))⟩ rfl rfl hl.1 rfl (Nat.le_of_ble_eq_true rfl) dX9_init_8 ⟨Nat.le_of_ble_eq_true rfl, Nat.le_of_ble_eq_true rfl⟩) hS (fun _ h => h) (fun _ h => h) (fun H1 locs1 hB _ _ hS => ?_)
  exact kk_vretW S hr hlk hS hB dX9_init_11
set_option maxHeartbeats 4000000 in
theorem kX10_new10 (l : Launch) (D : va_G) (tys : List (ClassId × FieldType)) (o a0 n : Nat) : Met l yX10_init (ws_ yX10_init cX10_init 3 none) (rmF 4) (va_Pc [.ref o, .ref a0, .int (nI n)] (kaB D tys o 10 5 (fun k => match k with | 0 => none | 1 => none | 2 => none | 3 => none | 4 => none | _ => none))) (kW none (obK D 10 o 5 (fun k => match k with | 0 => some (.int (nI n)) | 1 => some (.ref a0) | 2 => some (.ref a0) | 3 => some (.ref a0) | 4 => some (.ref a0) | _ => none)) (fun q => q = o)) 0 0 (fun q => q = o) := by
  refine kk_start (by decide) (Nat.le_of_ble_eq_true rfl) ?_
  intro p e s m below meth c S hr hlk hin hB ls hl
  obtain ⟨hK, hP⟩ := hB
  have hx := S.1
  have hb := S.2.1
  have hin := hin rfl
  have hown : s.vm.findClass RX10 = some m.cls := S.2.2.2.1
  have hts := S.2.2.2.2
  have hS : va_S (fun q => q = o) s.heap s.heap [] := va_S.rf
  have hl : lv_has ls 3 [(0, .ref o), (1, .ref a0), (2, .int (nI n))] := hl
  refine lv_aload_n hx hb dX10_init_0 rfl (lv_at hl 0 rfl) ?_
  refine lv_aload_n hx hb dX10_init_1 rfl (lv_at hl 1 rfl) ?_
  refine kn_putK hx hb hts in_X10 tyX10 tyX10_ok hown hK hP hS rfl rfl 4 (by decide) (hts _ q368) rfl rfl hin rfl rfl rfl (fun j hj hne w hw => by rcases (show j = 0 ∨ j = 1 ∨ j = 2 ∨ j = 3 ∨ j = 4 by omega) with e | e | e | e | e <;> subst e <;> first | exact absurd rfl hne | (cases hw; done) | exact Or.inl (Option.some.inj hw).symm | exact Or.inr (by decide)) dX10_init_2 (fun H locs hP hS => ?_)
  refine lv_aload_n hx hb dX10_init_5 rfl (lv_at hl 0 rfl) ?_
  refine lv_aload_n hx hb dX10_init_6 rfl (lv_at hl 1 rfl) ?_
  refine lv_iload_n hx hb dX10_init_7 rfl (lv_at hl 2 rfl) ?_
  refine kk_Wv (W.runI (As := [.ref a0, .int (nI n)]) (rest := []) S (kX9_new10 l D tys o a0 n) (cwI 2 hts (lw_meth q353) rfl rfl rfl (hts _ q113) (hts _ q367) (hts _ q352) rfl (by decide +kernel) ⟨Nat.le_of_ble_eq_true rfl, Nat.le_of_ble_eq_true rfl⟩) ⟨kaB_blind, kaB_pre hK (hP.le (fun j hj v hv => by rcases (show j = 0 ∨ j = 1 ∨ j = 2 ∨ j = 3 ∨ j = 4 by omega) with e | e | e | e | e <;> subst e <;> first | exact hv | (cases hv; done)))⟩ rfl rfl hl.1 rfl (Nat.le_of_ble_eq_true rfl) dX10_init_8 ⟨Nat.le_of_ble_eq_true rfl, Nat.le_of_ble_eq_true rfl⟩) hS (fun _ h => h) (fun _ h => h) (fun H1 locs1 hB _ _ hS => ?_)
  exact kk_vretW S hr hlk hS hB dX10_init_11
set_option maxHeartbeats 4000000 in
theorem kX11_new11 (l : Launch) (D : va_G) (tys : List (ClassId × FieldType)) (o a0 n : Nat) : Met l yX11_init (ws_ yX11_init cX11_init 3 none) (rmF 2) (va_Pc [.ref o, .ref a0, .int (nI n)] (kaB D tys o 11 3 (fun k => match k with | 0 => none | 1 => none | 2 => none | _ => none))) (kW none (obK D 11 o 3 (fun k => match k with | 0 => some (.int (nI n)) | 1 => some (.ref a0) | 2 => some (.ref a0) | _ => none)) (fun q => q = o)) 0 0 (fun q => q = o) := by
  refine kk_start (by decide) (Nat.le_of_ble_eq_true rfl) ?_
  intro p e s m below meth c S hr hlk hin hB ls hl
  obtain ⟨hK, hP⟩ := hB
  have hx := S.1
  have hb := S.2.1
  have hin := hin rfl
  have hown : s.vm.findClass RX11 = some m.cls := S.2.2.2.1
  have hts := S.2.2.2.2
  have hS : va_S (fun q => q = o) s.heap s.heap [] := va_S.rf
  have hl : lv_has ls 3 [(0, .ref o), (1, .ref a0), (2, .int (nI n))] := hl
  refine lv_aload_n hx hb dX11_init_0 rfl (lv_at hl 0 rfl) ?_
  refine lv_aload_n hx hb dX11_init_1 rfl (lv_at hl 1 rfl) ?_
  refine kn_putK hx hb hts in_X11 tyX11 tyX11_ok hown hK hP hS rfl rfl 2 (by decide) (hts _ q382) rfl rfl hin rfl rfl rfl (fun j hj hne w hw => by rcases (show j = 0 ∨ j = 1 ∨ j = 2 by omega) with e | e | e <;> subst e <;> first | exact absurd rfl hne | (cases hw; done) | exact Or.inl (Option.some.inj hw).symm | exact Or.inr (by decide)) dX11_init_2 (fun H locs hP hS => ?_)
  refine lv_aload_n hx hb dX11_init_5 rfl (lv_at hl 0 rfl) ?_
  refine lv_aload_n hx hb dX11_init_6 rfl (lv_at hl 1 rfl) ?_
  refine lv_iload_n hx hb dX11_init_7 rfl (lv_at hl 2 rfl) ?_
  refine kk_Wv (W.runI (As := [.ref a0, .int (nI n)]) (rest := []) S (kX6_new11 l D tys o a0 n) (cwI 2 hts (lw_meth q324) rfl rfl rfl (hts _ q110) (hts _ q381) (hts _ q323) rfl (by decide +kernel) ⟨Nat.le_of_ble_eq_true rfl, Nat.le_of_ble_eq_true rfl⟩) ⟨kaB_blind, kaB_pre hK (hP.le (fun j hj v hv => by rcases (show j = 0 ∨ j = 1 ∨ j = 2 by omega) with e | e | e <;> subst e <;> first | exact hv | (cases hv; done)))⟩ rfl rfl hl.1 rfl (Nat.le_of_ble_eq_true rfl) dX11_init_8 ⟨Nat.le_of_ble_eq_true rfl, Nat.le_of_ble_eq_true rfl⟩) hS (fun _ h => h) (fun _ h => h) (fun H1 locs1 hB _ _ hS => ?_)
  exact kk_vretW S hr hlk hS hB dX11_init_11
set_option maxHeartbeats 4000000 in
theorem kX12_new12 (l : Launch) (D : va_G) (tys : List (ClassId × FieldType)) (o a0 n : Nat) : Met l yX12_init (ws_ yX12_init cX12_init 3 none) (rmF 3) (va_Pc [.ref o, .ref a0, .int (nI n)] (kaB D tys o 12 4 (fun k => match k with | 0 => none | 1 => none | 2 => none | 3 => none | _ => none))) (kW none (obK D 12 o 4 (fun k => match k with | 0 => some (.int (nI n)) | 1 => some (.ref a0) | 2 => some (.ref a0) | 3 => some (.ref a0) | _ => none)) (fun q => q = o)) 0 0 (fun q => q = o) := by
  refine kk_start (by decide) (Nat.le_of_ble_eq_true rfl) ?_
  intro p e s m below meth c S hr hlk hin hB ls hl
  obtain ⟨hK, hP⟩ := hB
  have hx := S.1
  have hb := S.2.1
  have hin := hin rfl
  have hown : s.vm.findClass RX12 = some m.cls := S.2.2.2.1
  have hts := S.2.2.2.2
  have hS : va_S (fun q => q = o) s.heap s.heap [] := va_S.rf
  have hl : lv_has ls 3 [(0, .ref o), (1, .ref a0), (2, .int (nI n))] := hl
  refine lv_aload_n hx hb dX12_init_0 rfl (lv_at hl 0 rfl) ?_
  refine lv_aload_n hx hb dX12_init_1 rfl (lv_at hl 1 rfl) ?_
  refine kn_putK hx hb hts in_X12 tyX12 tyX12_ok hown hK hP hS rfl rfl 3 (by decide) (hts _ q394) rfl rfl hin rfl rfl rfl (fun j hj hne w hw => by rcases (show j = 0 ∨ j = 1 ∨ j = 2 ∨ j = 3 by omega) with e | e | e | e <;> subst e <;> first | exact absurd rfl hne | (cases hw; done) | exact Or.inl (Option.some.inj hw).symm | exact Or.inr (by decide)) dX12_init_2 (fun H locs hP hS => ?_)
  refine lv_aload_n hx hb dX12_init_5 rfl (lv_at hl 0 rfl) ?_
  refine lv_aload_n hx hb dX12_init_6 rfl (lv_at hl 1 rfl) ?_
  refine lv_iload_n hx hb dX12_init_7 rfl (lv_at hl 2 rfl) ?_
  refine kk_Wv (W.runI (As := [.ref a0, .int (nI n)]) (rest := []) S (kX7_new12 l D tys o a0 n) (cwI 2 hts (lw_meth q321) rfl rfl rfl (hts _ q111) (hts _ q393) (hts _ q320) rfl (by decide +kernel) ⟨Nat.le_of_ble_eq_true rfl, Nat.le_of_ble_eq_true rfl⟩) ⟨kaB_blind, kaB_pre hK (hP.le (fun j hj v hv => by rcases (show j = 0 ∨ j = 1 ∨ j = 2 ∨ j = 3 by omega) with e | e | e | e <;> subst e <;> first | exact hv | (cases hv; done)))⟩ rfl rfl hl.1 rfl (Nat.le_of_ble_eq_true rfl) dX12_init_8 ⟨Nat.le_of_ble_eq_true rfl, Nat.le_of_ble_eq_true rfl⟩) hS (fun _ h => h) (fun _ h => h) (fun H1 locs1 hB _ _ hS => ?_)
  exact kk_vretW S hr hlk hS hB dX12_init_11

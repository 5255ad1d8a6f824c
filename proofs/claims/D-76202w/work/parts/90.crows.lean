/-! COMPONENT: the region of a ThunderCasks, cells by block b and place j at address 100 b + j. Block 0: 0 the object, 1 its reader, 2 its refusal, 3 the reader's wrong, 4 casks, 5 spots, 6 sheets, 7 findings, 8 the tape; blocks 1 d, 2 kept, 3 aside, 4 told: worlds; 5 slots of casks, 6 casks (8 kind + number), 7 slots of spots, 8 slots of sheets. Rows x: 1 kept, 2 told, 3 aside, 4 findings (0 their sum), 5 the tape (0 .. 255), 9 (0 isKept, 1 taped, 2 firstFit), 10 the reader's (0 length, 1 at, 2 begin, 3 token, 4 value), 11 what spots' slots hold, 12 (0 the refusal's finding) -/
abbrev wT (t : CT) (b : Nat) : CT := (t.1, fun j => t.2.1 (b + j), t.2.2)
/-- which row a sheet's slot holds: kept in the bundle -/
def cG (t : CT) (k : Nat) : Option Nat := match t.2.2 (10 + k) with
  | 0 => none
  | a + 1 => some a
def cSp (t : CT) (v : Int32) : Value := if v = -1 then .null else .ref (t.2.1 (600 + v.toNatClampNeg))
abbrev cF0 (t : CT) (x : Nat → Rw) : List Value := [.ref (t.2.1 2), .ref (t.2.1 1), .int (x 9 1), .ref (t.2.1 100), .ref (t.2.1 200), .ref (t.2.1 300), .int (x 9 0), .ref (t.2.1 4), .ref (t.2.1 5), .ref (t.2.1 6), .ref (t.2.1 7), .int (x 9 2)]
abbrev cF1 (t : CT) (x : Nat → Rw) : List Value := [.ref (t.2.1 3), .ref (t.2.1 8), .ref (t.2.1 400), .int (x 10 0), .int (x 10 1), .int (x 10 2), .int (x 10 3), .int (x 10 4)]
abbrev cF2 (x : Nat → Rw) : List Value := [.null, .null, .null, .null, .null, .int 0, .int (x 12 0)]
abbrev cF3 : List Value := [.null, .null, .null, .null, .null, .int 0]
abbrev cO (t : CT) (n : Nat) : List Value := [.int (nI n), .ref (t.2.1 0), .ref (t.2.1 0), .ref (t.2.1 0), .ref (t.2.1 0)]
abbrev rA (n : Nat) (f : Nat → Nat) : vp_A := (n, .inr (.inr (.inr (.inr (fun k => some (f k))))))
def cE0 (t : CT) (x : Nat → Rw) : Nat → va_E := fun j => match j with
  | 0 => .inr (0, cF0 t x)
  | 1 => .inr (2, cF1 t x)
  | 2 => .inr (3, cF2 x)
  | 3 => .inr (4, cF3)
  | 4 => .inl (t.2.2 3, rA 56 (fun k => t.2.1 (500 + k)))
  | 5 => .inl (t.2.2 3, rA 10 (fun k => t.2.1 (700 + k)))
  | 6 => .inl (t.2.2 3, rA 4 (fun k => t.2.1 (800 + k)))
  | 7 => .inl (t.2.2 0, 7, .inl (fun k => x 4 (k + 1)))
  | _ => .inl (t.2.2 2, 120, .inl (fun k => (x 5 k).toInt8.toInt32))
def cE (t : CT) (r : Rw) (x : Nat → Rw) : Nat → Nat → va_E := fun b j => match b with
  | 0 => cE0 t x j
  | 1 => wE (wT t 100) r j
  | 2 => wE (wT t 200) (x 1) j
  | 3 => wE (wT t 300) (x 3) j
  | 4 => wE (wT t 400) (x 2) j
  | 5 => .inr (5, [.ref (t.2.1 (600 + j))])
  | 6 => .inr (6 + j / 8, cO t (j % 8))
  | 7 => .inr (5, [cSp t (x 11 j)])
  | _ => .inr (5, [va_rf (cG t j)])
def cS : Nat → Nat := fun b => match b with
  | 0 => 9
  | 1 => 12
  | 2 => 12
  | 3 => 12
  | 4 => 12
  | 5 => 56
  | 6 => 56
  | 7 => 10
  | _ => 4
def cX (t : CT) (r : Rw) (x : Nat → Rw) (H : Heap) : Prop := ∀ b j, b < 9 → j < cS b → va_at t.1 cC (t.2.1 (100 * b + j), cE t r x b j) H
def cA (t : CT) : Nat → Prop := fun q => ∃ b j, b < 9 ∧ j < cS b ∧ q = t.2.1 (100 * b + j)
def cD (t : CT) : Prop := ∀ b j b' j', b < 9 → j < cS b → b' < 9 → j' < cS b' → t.2.1 (100 * b + j) = t.2.1 (100 * b' + j') → b = b' ∧ j = j'
theorem cA.at (t : CT) (b : Nat) {j : Nat} (hb : b < 9) (hj : j < cS b) : cA t (t.2.1 (100 * b + j)) := ⟨b, j, hb, hj, rfl⟩
def nwF : List (String × Nat × String × String × String × String) := [("ThunderCasks", 106, "ThunderCasks$Refusal", "finding", "I", "ThunderCasks"), ("ThunderCasks$Cask", 37, "ThunderCasks$World", "frost", "[I", "ThunderCasks"), ("ThunderCasks$Reader", 114, "ThunderCasks$World", "frost", "[I", "ThunderCasks"), ("ThunderCasks", 159, "ThunderCasks$World", "frost", "[I", "ThunderCasks"), ("ThunderCasks$Reader", 110, "ThunderCasks$World", "list", "[I", "ThunderCasks"), ("ThunderCasks", 162, "ThunderCasks$World", "list", "[I", "ThunderCasks"), ("ThunderCasks", 197, "ThunderCasks$World", "claps", "I", "ThunderCasks"), ("ThunderCasks$Reader", 96, "ThunderCasks$World", "casks", "I", "ThunderCasks"), ("ThunderCasks", 114, "ThunderCasks$World", "casks", "I", "ThunderCasks"), ("ThunderCasks$Cask", 27, "ThunderCasks$World", "cask", "[[I", "ThunderCasks"), ("ThunderCasks", 101, "ThunderCasks$World", "cask", "[[I", "ThunderCasks"), ("ThunderCasks$Reader", 92, "ThunderCasks$World", "cask", "[[I", "ThunderCasks"), ("ThunderCasks", 153, "ThunderCasks$World", "day", "I", "ThunderCasks"), ("ThunderCasks", 332, "ThunderCasks$World", "z", "I", "ThunderCasks"), ("ThunderCasks", 355, "ThunderCasks$World", "holds", "[I", "ThunderCasks"), ("ThunderCasks", 338, "ThunderCasks$Reader", "tape", "[B", "ThunderCasks"), ("ThunderCasks", 344, "ThunderCasks$Reader", "told", "LThunderCasks$World;", "ThunderCasks"), ("ThunderCasks", 342, "ThunderCasks$Reader", "length", "I", "ThunderCasks"), ("ThunderCasks", 352, "ThunderCasks$Reader", "begin", "I", "ThunderCasks"), ("ThunderCasks", 97, "ThunderCasks$Slot", "thing", "Ljava/lang/Object;", "ThunderCasks"), ("ThunderCasks$Echo", 22, "ThunderCasks", "d", "LThunderCasks$World;", "ThunderCasks"), ("ThunderCasks$Cask", 23, "ThunderCasks", "d", "LThunderCasks$World;", "ThunderCasks")]
def nwM : List (String × Nat × MethodName × String) := [("ThunderCasks", 58, ⟨"ThunderCasks$Reader", "<init>", "()V"⟩, "ThunderCasks"), ("ThunderCasks", 92, ⟨"ThunderCasks$Slot", "<init>", "()V"⟩, "ThunderCasks"), ("ThunderCasks$Echo", 35, ⟨"ThunderCasks", "ones", "(I)I"⟩, "ThunderCasks"), ("ThunderCasks$Reader", 33, ⟨"ThunderCasks", "in", "(III)Z"⟩, "ThunderCasks")]
def nwC : List (String × String) := [("ThunderCasks$Refusal", "ThunderCasks$Refusal"), ("ThunderCasks$Wrong", "ThunderCasks$Wrong"), ("ThunderCasks$Cask", "ThunderCasks$Thunders"), ("ThunderCasks$Crack", "ThunderCasks$Thunders"), ("ThunderCasks$Echo", "ThunderCasks$Thunders"), ("ThunderCasks$Forged", "ThunderCasks$Thunders"), ("ThunderCasks$Heat", "ThunderCasks$Thunders"), ("ThunderCasks$Mellow", "ThunderCasks$Thunders"), ("ThunderCasks$Roll", "ThunderCasks$Thunders"), ("ThunderCasks$Crack", "ThunderCasks$Cask"), ("ThunderCasks$Echo", "ThunderCasks$Cask"), ("ThunderCasks$Forged", "ThunderCasks$Cask"), ("ThunderCasks$Heat", "ThunderCasks$Cask"), ("ThunderCasks$Mellow", "ThunderCasks$Cask"), ("ThunderCasks$Roll", "ThunderCasks$Cask"), ("ThunderCasks$Forged", "ThunderCasks$Crack"), ("ThunderCasks$Echo", "ThunderCasks$Roll"), ("ThunderCasks$Mellow", "ThunderCasks$Roll"), ("ThunderCasks$Echo", "ThunderCasks$Mellow")]
def nwD : List MethodName := [⟨"java/lang/RuntimeException", "<init>", "()V"⟩, ⟨"java/lang/RuntimeException", "<init>", "(Ljava/lang/String;)V"⟩, ⟨"java/lang/Exception", "<init>", "()V"⟩, ⟨"java/lang/Exception", "<init>", "(Ljava/lang/String;)V"⟩, ⟨"java/lang/Throwable", "<init>", "()V"⟩, ⟨"java/lang/Throwable", "<init>", "(Ljava/lang/String;)V"⟩, ⟨"ThunderCasks$Cask", "told", "(I)I"⟩, ⟨"ThunderCasks$Thunders", "half", "(I)I"⟩, ⟨"ThunderCasks$Thunders", "loud", "()I"⟩, ⟨"ThunderCasks$Thunders", "bears", "()I"⟩]
def nwN : List (String × String) := [("[I", "[B"), ("[S", "[B"), ("[I", "[S")]
def nwI : List (String × MethodName × MethodName) := [("ThunderCasks$Cask", ⟨"ThunderCasks$Thunders", "loud", "()I"⟩, ⟨"ThunderCasks$Cask", "loud", "()I"⟩), ("ThunderCasks$Crack", ⟨"ThunderCasks$Thunders", "loud", "()I"⟩, ⟨"ThunderCasks$Crack", "loud", "()I"⟩), ("ThunderCasks$Echo", ⟨"ThunderCasks$Thunders", "loud", "()I"⟩, ⟨"ThunderCasks$Echo", "loud", "()I"⟩), ("ThunderCasks$Forged", ⟨"ThunderCasks$Thunders", "loud", "()I"⟩, ⟨"ThunderCasks$Forged", "loud", "()I"⟩), ("ThunderCasks$Heat", ⟨"ThunderCasks$Thunders", "loud", "()I"⟩, ⟨"ThunderCasks$Heat", "loud", "()I"⟩), ("ThunderCasks$Mellow", ⟨"ThunderCasks$Thunders", "loud", "()I"⟩, ⟨"ThunderCasks$Mellow", "loud", "()I"⟩), ("ThunderCasks$Roll", ⟨"ThunderCasks$Thunders", "loud", "()I"⟩, ⟨"ThunderCasks$Roll", "loud", "()I"⟩), ("ThunderCasks$Cask", ⟨"ThunderCasks$Thunders", "bears", "()I"⟩, ⟨"ThunderCasks$Cask", "bears", "()I"⟩), ("ThunderCasks$Crack", ⟨"ThunderCasks$Thunders", "bears", "()I"⟩, ⟨"ThunderCasks$Crack", "bears", "()I"⟩), ("ThunderCasks$Echo", ⟨"ThunderCasks$Thunders", "bears", "()I"⟩, ⟨"ThunderCasks$Roll", "bears", "()I"⟩), ("ThunderCasks$Forged", ⟨"ThunderCasks$Thunders", "bears", "()I"⟩, ⟨"ThunderCasks$Crack", "bears", "()I"⟩), ("ThunderCasks$Heat", ⟨"ThunderCasks$Thunders", "bears", "()I"⟩, ⟨"ThunderCasks$Cask", "bears", "()I"⟩), ("ThunderCasks$Mellow", ⟨"ThunderCasks$Thunders", "bears", "()I"⟩, ⟨"ThunderCasks$Roll", "bears", "()I"⟩), ("ThunderCasks$Roll", ⟨"ThunderCasks$Thunders", "bears", "()I"⟩, ⟨"ThunderCasks$Roll", "bears", "()I"⟩)]
abbrev fLN (w : String × Nat × String × String × String × String) : Cond := .fieldLinkNest w.1 w.2.1 w.2.2.1 w.2.2.2.1 w.2.2.2.2.1 w.2.2.2.2.2
abbrev mLN (w : String × Nat × MethodName × String) : Cond := .methodLinkNest w.1 w.2.1 w.2.2.1 w.2.2.2
/-- a call that lands in an interface's default method, by the tables -/
def cDf (C : String) (x y : MethodName) (U : State) : Prop := ∃ c r m rm, U.vm.findClass C = some c ∧ U.methodFound? x.cls x.name x.desc = some r ∧ U.methodNamed? y = some m ∧ U.vm.method? r = some rm ∧ selectMethod {} U.vm c r = .method m ∧ (∃ mk, U.vm.classes[m.cls]? = some mk ∧ mk.isInterface = true) ∧
  (∀ k d, nearestHeld U.vm c rm.name rm.desc = some (k, .default d) → d = m) ∧ ∀ k b, nearestHeld U.vm c rm.name rm.desc ≠ some (k, .thrower b)
/-- the link of a class's inherited default method -/
def cDl (own : String) (idx : Nat) (U : State) : Prop := va_Nw (.methodLink own idx ⟨own, "half", "(I)I"⟩) U ∧ va_Nw (.sameMethod own "ThunderCasks$Thunders" "half" "(I)I") U
theorem vm_any {vm vm' : Vm} (h : vm.Alike vm') (f : Class → Bool) (hf : ∀ k : Class, f k.bare = f k) (c : ClassId) : (vm'.classes[c]?).any f = (vm.classes[c]?).any f := by
  cases hk : vm.classes[c]? with
  | none => rw [h.none hk]
  | some k =>
    obtain ⟨k', hk', he⟩ := h.2.2 _ _ hk
    rw [hk']
    show f k' = f k
    rw [← hf k', Class.bare_of he, hf]
theorem vm_near {vm vm' : Vm} (h : vm.Alike vm') (c : ClassId) (n d : String) : nearestHeld vm' c n d = nearestHeld vm c n d := by
  have e1 : superinterfaceMethods vm' = superinterfaceMethods vm := by rw [← superinterfaceMethods_bare vm', h.bare_eq, superinterfaceMethods_bare]
  have e2 : maximallySpecific vm' = maximallySpecific vm := by rw [← maximallySpecific_bare vm', h.bare_eq, maximallySpecific_bare]
  have e3 : ∀ k : ClassId, (vm'.classes[k]?).any (·.isInterface) = (vm.classes[k]?).any (·.isInterface) := vm_any h _ fun _ => rfl
  have e4 : ∀ k : ClassId, ((vm'.classes[k]?).any fun z => z.methods.any fun m => !m.isAbstract && !m.isStatic) = (vm.classes[k]?).any fun z => z.methods.any fun m => !m.isAbstract && !m.isStatic := vm_any h _ fun _ => rfl
  have e5 : ∀ (g : ClassId → Bool) (k : ClassId), (vm'.classes[k]?).any (·.interfaces.any g) = (vm.classes[k]?).any (·.interfaces.any g) := fun g => vm_any h _ fun _ => rfl
  simp only [nearestHeld, held, h.superclasses, h.declaredIn, h.superinterfaces, h.method?, e1, e2, e3, e4, e5]
theorem cDf.of {A : Array Value} {s : State} {C : String} {x y : MethodName} (h : (Cond.landsInDefault C x y).before A s = true) : cDf C x y s := by
  simp only [Cond.before, Cond.holds, Cond.value] at h
  cases hc : s.vm.findClass C with
  | none => simp [hc] at h
  | some c =>
  cases hr : s.methodFound? x.cls x.name x.desc with
  | none => simp [hc, hr] at h
  | some r =>
  cases hm : s.methodNamed? y with
  | none => simp [hc, hr, hm] at h
  | some m =>
  cases hrm : s.vm.method? r with
  | none => simp [hc, hr, hm, hrm] at h
  | some rm =>
  simp only [hc, hr, hm, hrm, Option.map_some, beq_iff_eq, Option.some.injEq] at h
  split at h
  · rename_i m' hsel
    simp only [Bool.and_eq_true, decide_eq_true_eq, Bool.not_eq_true', Option.any_eq_true] at h
    obtain ⟨⟨⟨⟨rfl, mk, hmk, hi⟩, -⟩, -⟩, hn⟩ := h
    refine ⟨c, r, m', rm, hc, hr, hm, hrm, hsel, ⟨mk, hmk, hi⟩, fun k d hk => ?_, fun k b hk => ?_⟩
    · rw [hk] at hn; simpa using hn
    · rw [hk] at hn; cases hn
  · cases h
theorem cDf.moved {C : String} {x y : MethodName} {own : String} {u U : State} (hx : x.cls ≠ "java/lang/invoke/MethodHandle" ∧ x.cls ≠ "java/lang/invoke/VarHandle") (hvm : u.vm.Alike U.vm) (hs : va_Nw (.sameMethod x.cls own x.name x.desc) u) (h : cDf C x y u) : cDf C x y U := by
  obtain ⟨c, r, m, rm, h1, h2, h3, h4, h5, ⟨mk, h6, h6'⟩, h7, h8⟩ := h
  obtain ⟨cn, ck, r1, hcn, hck, hni, hf, hn1⟩ := Cond.sameMethod_found (va_Nw.use (A := #[]) rfl hs)
  obtain ⟨mk', q6, q6'⟩ := hvm.2.2 _ _ h6
  have e1 : U.methodFound? x.cls x.name x.desc = u.methodFound? x.cls x.name x.desc := by
    have := State.methodFound?_setVm_class (vm' := U.vm) hvm hcn hck hni (name := x.name) (desc := x.desc) (fun y => by
      obtain ⟨k0, hk0, hnm⟩ := Vm.findClass_spec hcn
      cases hk0.symm.trans hck
      simp [signaturePolymorphic, hnm, hx.1, hx.2])
    exact this
  have e2 : U.methodNamed? y = u.methodNamed? y := by
    have := State.methodNamed?_setVm (s := u) (vm' := U.vm) hvm (x := y)
    exact this
  exact ⟨c, r, m, rm, by rw [hvm.findClass]; exact h1, by rw [e1]; exact h2, by rw [e2]; exact h3, by rw [hvm.method?]; exact h4, by rw [hvm.selectMethod]; exact h5, ⟨mk', q6, by rw [q6']; exact h6'⟩, fun k d hk => h7 k d (by rw [vm_near hvm] at hk; exact hk), fun k b hk => h8 k b (by rw [vm_near hvm] at hk; exact hk)⟩
def nwL : List (String × MethodName) := [("ThunderCasks$Echo", ⟨"ThunderCasks$Mellow", "half", "(I)I"⟩), ("ThunderCasks$Mellow", ⟨"ThunderCasks$Mellow", "half", "(I)I"⟩), ("ThunderCasks$Crack", ⟨"ThunderCasks$Crack", "half", "(I)I"⟩), ("ThunderCasks$Forged", ⟨"ThunderCasks$Crack", "half", "(I)I"⟩)]
abbrev yHalf : MethodName := ⟨"ThunderCasks$Thunders", "half", "(I)I"⟩
/-- words of the tables that do not ride in the list lw_all -/
def cN (U : State) : Prop := (∀ w ∈ nwF, va_Nw (fLN w) U) ∧ (∀ w ∈ nwM, va_Nw (mLN w) U) ∧ (∀ w ∈ nwC, va_Nw (.castable w.1 w.2) U) ∧ (∀ w ∈ nwD, va_Nw (.declares w) U) ∧ (∀ w ∈ nwN, va_Nc w.1 w.2 U) ∧ (∀ w ∈ nwI, va_Fw w.1 w.2.1 w.2.2 U) ∧
  (cDl "ThunderCasks$Mellow" 26 U ∧ cDl "ThunderCasks$Crack" 42 U) ∧ (∀ w ∈ nwL, cDf w.1 w.2 yHalf U) ∧ va_Nw (.publicMethod yHalf) U
theorem nwI_ok : ∀ w ∈ nwI, w.2.1.cls ≠ "java/lang/invoke/MethodHandle" ∧ w.2.1.cls ≠ "java/lang/invoke/VarHandle" := by decide +kernel
theorem nwL_ok : ∀ w ∈ nwL, (w.2 = ⟨"ThunderCasks$Mellow", "half", "(I)I"⟩ ∨ w.2 = ⟨"ThunderCasks$Crack", "half", "(I)I"⟩) := by decide +kernel
theorem cDl.warm {own : String} {i : Nat} {s U : State} (hW : s.WarmedH U.vm) (h : cDl own i s) : cDl own i U := by
  refine ⟨?_, ?_⟩
  · exact word_at hW (Or.inl (by first | rfl | simp [Cond.onTables, Cond.keeps, Cond.steady])) h.1
  · exact word_at hW (Or.inl (by first | rfl | simp [Cond.onTables, Cond.keeps, Cond.steady])) h.2
theorem cN.warm {s U : State} (hW : s.WarmedH U.vm) (h : cN s) : cN U := by
  obtain ⟨h1, h2, h3, h4, h5, h6, h7, h8, h9⟩ := h
  refine ⟨fun w hw => (h1 w hw).warmF hW, fun w hw => (h2 w hw).warmM hW, fun w hw => (h3 w hw).warmC hW, fun w hw => (h4 w hw).warmD hW, fun w hw => (h5 w hw).moved hW.alike, fun w hw => (h6 w hw).moved (nwI_ok w hw) hW.alike, ⟨h7.1.warm hW, h7.2.warm hW⟩, fun w hw => ?_, va_tabs rfl (rfl : (s.setVm U.vm).vm = U.vm) (by rw [Cond.publicMethod_setVm hW.alike]; exact h9)⟩
  rcases nwL_ok w hw with e | e
  · exact (h8 w hw).moved (own := "ThunderCasks$Thunders") (by rw [e]; decide) hW.alike (by rw [e]; exact h7.1.2)
  · exact (h8 w hw).moved (own := "ThunderCasks$Thunders") (by rw [e]; decide) hW.alike (by rw [e]; exact h7.2.2)
theorem cN.same {u U : State} (hvm : u.vm = U.vm) (h : cN u) : cN U := by
  have hW : u.WarmedH U.vm := by rw [← hvm]; exact State.WarmedH.refl u
  exact h.warm hW
def cK (t : CT) (U : State) : Prop := va_K t.1 cC (cTy t) U ∧ cD t ∧ cN U
theorem cK.warm {t : CT} {s U : State} (hW : s.WarmedH U.vm) (h : cK t s) : cK t U := ⟨va_K.moved hW.alike h.1, h.2.1, h.2.2.warm hW⟩
theorem cK.same {t : CT} {u U : State} (hvm : u.vm = U.vm) (h : cK t u) : cK t U := ⟨va_K.moved (by rw [← hvm]; exact Vm.Alike.refl _) h.1, h.2.1, h.2.2.same hvm⟩
theorem cK.f {t : CT} {s : State} (h : cK t s) {w : String × Nat × String × String × String × String} (i : Nat) (hi : nwF[i]? = some w) (args : Array Value) : (fLN w).before args s = true := va_Nw.use rfl (h.2.2.1 w (List.mem_of_getElem? hi))
theorem cK.m {t : CT} {s : State} (h : cK t s) {w : String × Nat × MethodName × String} (i : Nat) (hi : nwM[i]? = some w) : va_Nw (mLN w) s := h.2.2.2.1 w (List.mem_of_getElem? hi)
theorem cK.c {t : CT} {s : State} (h : cK t s) {w : String × String} (i : Nat) (hi : nwC[i]? = some w) : va_Nw (.castable w.1 w.2) s := h.2.2.2.2.1 w (List.mem_of_getElem? hi)
theorem cK.d {t : CT} {s : State} (h : cK t s) {w : MethodName} (i : Nat) (hi : nwD[i]? = some w) : va_Nw (.declares w) s := h.2.2.2.2.2.1 w (List.mem_of_getElem? hi)
theorem cK.n {t : CT} {s : State} (h : cK t s) {w : String × String} (i : Nat) (hi : nwN[i]? = some w) : va_Nc w.1 w.2 s := h.2.2.2.2.2.2.1 w (List.mem_of_getElem? hi)
theorem cK.i {t : CT} {s : State} (h : cK t s) {w : String × MethodName × MethodName} (i : Nat) (hi : nwI[i]? = some w) : va_Fw w.1 w.2.1 w.2.2 s := h.2.2.2.2.2.2.2.1 w (List.mem_of_getElem? hi)
theorem cK.w {t : CT} {s : State} (h : cK t s) {b : Nat} (hb : b < 9) (hs : cS b = 12) : wK (wT t (100 * b)) s := ⟨h.1, fun i j hi hj e => (h.2.1 b i b j hb (by omega) hb (by omega) e).2⟩
theorem cX.w1 {t : CT} {r : Rw} {x : Nat → Rw} {H : Heap} (h : cX t r x H) : wW (wT t 100) r H := fun j hj => h 1 j (by decide) hj
theorem cX.w2 {t : CT} {r : Rw} {x : Nat → Rw} {H : Heap} (h : cX t r x H) : wW (wT t 200) (x 1) H := fun j hj => h 2 j (by decide) hj
theorem cX.w3 {t : CT} {r : Rw} {x : Nat → Rw} {H : Heap} (h : cX t r x H) : wW (wT t 300) (x 3) H := fun j hj => h 3 j (by decide) hj
theorem cX.w4 {t : CT} {r : Rw} {x : Nat → Rw} {H : Heap} (h : cX t r x H) : wW (wT t 400) (x 2) H := fun j hj => h 4 j (by decide) hj
theorem cX.ob {t : CT} {r : Rw} {x : Nat → Rw} {H : Heap} (h : cX t r x H) (i n : Nat) (hi : i < 7) (hn : n < 8) : va_at t.1 cC (t.2.1 (600 + (8 * i + n)), .inr (6 + i, cO t n)) H := by
  have h1 := h 6 (8 * i + n) (by decide) (by show _ < 56; omega)
  have e : cE t r x 6 (8 * i + n) = .inr (6 + i, cO t n) := by
    show Sum.inr (6 + (8 * i + n) / 8, cO t ((8 * i + n) % 8)) = _
    rw [show (8 * i + n) / 8 = i by omega, show (8 * i + n) % 8 = n by omega]
  rw [e] at h1
  exact h1
theorem cA.w {t : CT} {b : Nat} (hb : b < 9) (hs : cS b = 12) : ∀ q, wA (wT t (100 * b)) q → cA t q := fun q ⟨j, hj, e⟩ => ⟨b, j, hb, by omega, e⟩
/-- what one change of the heap leaves of the region -/
theorem cX.upd {t : CT} {r r' : Rw} {x x' : Nat → Rw} {H H1 : Heap} (Z : Nat → Nat → Prop) (h : cX t r x H) (h1 : ∀ b j, b < 9 → j < cS b → Z b j → va_at t.1 cC (t.2.1 (100 * b + j), cE t r' x' b j) H1) (h2 : ∀ b j, b < 9 → j < cS b → ¬ Z b j → cE t r' x' b j = cE t r x b j ∧ H1[t.2.1 (100 * b + j)]? = H[t.2.1 (100 * b + j)]?) : cX t r' x' H1 := by
  intro b j hb hj
  by_cases hz : Z b j
  · exact h1 b j hb hj hz
  · obtain ⟨e, e2⟩ := h2 b j hb hj hz
    rw [e]
    exact (h b j hb hj).kept e2
theorem cX.one {t : CT} {r r' : Rw} {x x' : Nat → Rw} {H H1 : Heap} {s : State} (hK : cK t s) (h : cX t r x H) (b0 j0 : Nat) (hb0 : b0 < 9) (hj0 : j0 < cS b0) (he : va_at t.1 cC (t.2.1 (100 * b0 + j0), cE t r' x' b0 j0) H1) (oq : ∀ q : Nat, q ≠ t.2.1 (100 * b0 + j0) → H1[q]? = H[q]?) (hn : ∀ b j, b < 9 → j < cS b → ¬ (b = b0 ∧ j = j0) → cE t r' x' b j = cE t r x b j) : cX t r' x' H1 :=
  h.upd (fun b j => b = b0 ∧ j = j0) (fun b j _ _ ⟨e1, e2⟩ => by subst e1; subst e2; exact he) (fun b j hb hj hz => ⟨hn b j hb hj hz, oq _ (fun e => hz (hK.2.1 b j b0 j0 hb hj hb0 hj0 e))⟩)
theorem cX.world {t : CT} {r r' : Rw} {x x' : Nat → Rw} {H H1 : Heap} {s : State} (hK : cK t s) (h : cX t r x H) (b0 : Nat) (hb0 : b0 < 9) (hs : cS b0 = 12) (hw : ∀ j, j < 12 → va_at t.1 cC (t.2.1 (100 * b0 + j), cE t r' x' b0 j) H1) (oq : ∀ q : Nat, q < H.size → ¬ wA (wT t (100 * b0)) q → H1[q]? = H[q]?) (hn : ∀ b j, b < 9 → j < cS b → b ≠ b0 → cE t r' x' b j = cE t r x b j) : cX t r' x' H1 :=
  h.upd (fun b j => b = b0) (fun b j _ hj e => by subst e; exact hw j (by omega)) (fun b j hb hj hz => ⟨hn b j hb hj hz, oq _ ((h b j hb hj).lt) (fun ⟨j', hj', e⟩ => hz (hK.2.1 b j b0 j' hb hj hb0 (by omega) e).1)⟩)
theorem cE_r (t : CT) (r r' : Rw) (x : Nat → Rw) (f : Rw) : ∀ b j, b < 9 → j < cS b → b ≠ 1 → cE t r' x b j = cE t r x b j := by
  intro b j hb hj hz
  match b, hb, hj, hz with
  | 0, _, hj, hz =>
    match j, hj, hz with
    | 0, _, _ => rfl
    | 1, _, _ => rfl
    | 2, _, _ => rfl
    | 3, _, _ => rfl
    | 4, _, _ => rfl
    | 5, _, _ => rfl
    | 6, _, _ => rfl
    | 7, _, _ => rfl
    | 8, _, _ => rfl
    | j + 9, hj, _ => exact absurd hj (by show ¬ j + 9 < 9; omega)
  | 1, _, _, hz => exact absurd rfl hz
  | 2, _, _, _ => rfl
  | 3, _, _, _ => rfl
  | 4, _, _, _ => rfl
  | 5, _, _, _ => rfl
  | 6, _, _, _ => rfl
  | 7, _, _, _ => rfl
  | 8, _, _, _ => rfl
  | b + 9, hb, _, _ => omega
theorem cE_1 (t : CT) (r r' : Rw) (x : Nat → Rw) (f : Rw) : ∀ b j, b < 9 → j < cS b → b ≠ 2 → cE t r (va_up x 1 f) b j = cE t r x b j := by
  intro b j hb hj hz
  have e2 : (va_up x 1 f) 2 = x 2 := if_neg (by decide)
  have e3 : (va_up x 1 f) 3 = x 3 := if_neg (by decide)
  have e4 : (va_up x 1 f) 4 = x 4 := if_neg (by decide)
  have e5 : (va_up x 1 f) 5 = x 5 := if_neg (by decide)
  have e9 : (va_up x 1 f) 9 = x 9 := if_neg (by decide)
  have e10 : (va_up x 1 f) 10 = x 10 := if_neg (by decide)
  have e11 : (va_up x 1 f) 11 = x 11 := if_neg (by decide)
  have e12 : (va_up x 1 f) 12 = x 12 := if_neg (by decide)
  match b, hb, hj, hz with
  | 0, _, hj, hz =>
    match j, hj, hz with
    | 0, _, _ => simp only [cE, cE0, cF0, cF1, cF2, e9]
    | 1, _, _ => simp only [cE, cE0, cF0, cF1, cF2, e10]
    | 2, _, _ => simp only [cE, cE0, cF0, cF1, cF2, e12]
    | 3, _, _ => simp only [cE, cE0]
    | 4, _, _ => simp only [cE, cE0]
    | 5, _, _ => simp only [cE, cE0]
    | 6, _, _ => simp only [cE, cE0]
    | 7, _, _ => simp only [cE, cE0, cF0, cF1, cF2, e4]
    | 8, _, _ => simp only [cE, cE0, cF0, cF1, cF2, e5]
    | j + 9, hj, _ => exact absurd hj (by show ¬ j + 9 < 9; omega)
  | 1, _, _, _ => simp only [cE]
  | 2, _, _, hz => exact absurd rfl hz
  | 3, _, _, _ => simp only [cE, cE0, cF0, cF1, cF2, e3]
  | 4, _, _, _ => simp only [cE, cE0, cF0, cF1, cF2, e2]
  | 5, _, _, _ => simp only [cE]
  | 6, _, _, _ => simp only [cE]
  | 7, _, _, _ => simp only [cE, cE0, cF0, cF1, cF2, e11]
  | 8, _, _, _ => simp only [cE]
  | b + 9, hb, _, _ => omega
theorem cE_3 (t : CT) (r r' : Rw) (x : Nat → Rw) (f : Rw) : ∀ b j, b < 9 → j < cS b → b ≠ 3 → cE t r (va_up x 3 f) b j = cE t r x b j := by
  intro b j hb hj hz
  have e1 : (va_up x 3 f) 1 = x 1 := if_neg (by decide)
  have e2 : (va_up x 3 f) 2 = x 2 := if_neg (by decide)
  have e4 : (va_up x 3 f) 4 = x 4 := if_neg (by decide)
  have e5 : (va_up x 3 f) 5 = x 5 := if_neg (by decide)
  have e9 : (va_up x 3 f) 9 = x 9 := if_neg (by decide)
  have e10 : (va_up x 3 f) 10 = x 10 := if_neg (by decide)
  have e11 : (va_up x 3 f) 11 = x 11 := if_neg (by decide)
  have e12 : (va_up x 3 f) 12 = x 12 := if_neg (by decide)
  match b, hb, hj, hz with
  | 0, _, hj, hz =>
    match j, hj, hz with
    | 0, _, _ => simp only [cE, cE0, cF0, cF1, cF2, e9]
    | 1, _, _ => simp only [cE, cE0, cF0, cF1, cF2, e10]
    | 2, _, _ => simp only [cE, cE0, cF0, cF1, cF2, e12]
    | 3, _, _ => simp only [cE, cE0]
    | 4, _, _ => simp only [cE, cE0]
    | 5, _, _ => simp only [cE, cE0]
    | 6, _, _ => simp only [cE, cE0]
    | 7, _, _ => simp only [cE, cE0, cF0, cF1, cF2, e4]
    | 8, _, _ => simp only [cE, cE0, cF0, cF1, cF2, e5]
    | j + 9, hj, _ => exact absurd hj (by show ¬ j + 9 < 9; omega)
  | 1, _, _, _ => simp only [cE]
  | 2, _, _, _ => simp only [cE, cE0, cF0, cF1, cF2, e1]
  | 3, _, _, hz => exact absurd rfl hz
  | 4, _, _, _ => simp only [cE, cE0, cF0, cF1, cF2, e2]
  | 5, _, _, _ => simp only [cE]
  | 6, _, _, _ => simp only [cE]
  | 7, _, _, _ => simp only [cE, cE0, cF0, cF1, cF2, e11]
  | 8, _, _, _ => simp only [cE]
  | b + 9, hb, _, _ => omega
theorem cE_2 (t : CT) (r r' : Rw) (x : Nat → Rw) (f : Rw) : ∀ b j, b < 9 → j < cS b → b ≠ 4 → cE t r (va_up x 2 f) b j = cE t r x b j := by
  intro b j hb hj hz
  have e1 : (va_up x 2 f) 1 = x 1 := if_neg (by decide)
  have e3 : (va_up x 2 f) 3 = x 3 := if_neg (by decide)
  have e4 : (va_up x 2 f) 4 = x 4 := if_neg (by decide)
  have e5 : (va_up x 2 f) 5 = x 5 := if_neg (by decide)
  have e9 : (va_up x 2 f) 9 = x 9 := if_neg (by decide)
  have e10 : (va_up x 2 f) 10 = x 10 := if_neg (by decide)
  have e11 : (va_up x 2 f) 11 = x 11 := if_neg (by decide)
  have e12 : (va_up x 2 f) 12 = x 12 := if_neg (by decide)
  match b, hb, hj, hz with
  | 0, _, hj, hz =>
    match j, hj, hz with
    | 0, _, _ => simp only [cE, cE0, cF0, cF1, cF2, e9]
    | 1, _, _ => simp only [cE, cE0, cF0, cF1, cF2, e10]
    | 2, _, _ => simp only [cE, cE0, cF0, cF1, cF2, e12]
    | 3, _, _ => simp only [cE, cE0]
    | 4, _, _ => simp only [cE, cE0]
    | 5, _, _ => simp only [cE, cE0]
    | 6, _, _ => simp only [cE, cE0]
    | 7, _, _ => simp only [cE, cE0, cF0, cF1, cF2, e4]
    | 8, _, _ => simp only [cE, cE0, cF0, cF1, cF2, e5]
    | j + 9, hj, _ => exact absurd hj (by show ¬ j + 9 < 9; omega)
  | 1, _, _, _ => simp only [cE]
  | 2, _, _, _ => simp only [cE, cE0, cF0, cF1, cF2, e1]
  | 3, _, _, _ => simp only [cE, cE0, cF0, cF1, cF2, e3]
  | 4, _, _, hz => exact absurd rfl hz
  | 5, _, _, _ => simp only [cE]
  | 6, _, _, _ => simp only [cE]
  | 7, _, _, _ => simp only [cE, cE0, cF0, cF1, cF2, e11]
  | 8, _, _, _ => simp only [cE]
  | b + 9, hb, _, _ => omega
theorem cE_11 (t : CT) (r r' : Rw) (x : Nat → Rw) (f : Rw) : ∀ b j, b < 9 → j < cS b → b ≠ 7 → cE t r (va_up x 11 f) b j = cE t r x b j := by
  intro b j hb hj hz
  have e1 : (va_up x 11 f) 1 = x 1 := if_neg (by decide)
  have e2 : (va_up x 11 f) 2 = x 2 := if_neg (by decide)
  have e3 : (va_up x 11 f) 3 = x 3 := if_neg (by decide)
  have e4 : (va_up x 11 f) 4 = x 4 := if_neg (by decide)
  have e5 : (va_up x 11 f) 5 = x 5 := if_neg (by decide)
  have e9 : (va_up x 11 f) 9 = x 9 := if_neg (by decide)
  have e10 : (va_up x 11 f) 10 = x 10 := if_neg (by decide)
  have e12 : (va_up x 11 f) 12 = x 12 := if_neg (by decide)
  match b, hb, hj, hz with
  | 0, _, hj, hz =>
    match j, hj, hz with
    | 0, _, _ => simp only [cE, cE0, cF0, cF1, cF2, e9]
    | 1, _, _ => simp only [cE, cE0, cF0, cF1, cF2, e10]
    | 2, _, _ => simp only [cE, cE0, cF0, cF1, cF2, e12]
    | 3, _, _ => simp only [cE, cE0]
    | 4, _, _ => simp only [cE, cE0]
    | 5, _, _ => simp only [cE, cE0]
    | 6, _, _ => simp only [cE, cE0]
    | 7, _, _ => simp only [cE, cE0, cF0, cF1, cF2, e4]
    | 8, _, _ => simp only [cE, cE0, cF0, cF1, cF2, e5]
    | j + 9, hj, _ => exact absurd hj (by show ¬ j + 9 < 9; omega)
  | 1, _, _, _ => simp only [cE]
  | 2, _, _, _ => simp only [cE, cE0, cF0, cF1, cF2, e1]
  | 3, _, _, _ => simp only [cE, cE0, cF0, cF1, cF2, e3]
  | 4, _, _, _ => simp only [cE, cE0, cF0, cF1, cF2, e2]
  | 5, _, _, _ => simp only [cE]
  | 6, _, _, _ => simp only [cE]
  | 7, _, _, hz => exact absurd rfl hz
  | 8, _, _, _ => simp only [cE]
  | b + 9, hb, _, _ => omega
theorem cE_4 (t : CT) (r r' : Rw) (x : Nat → Rw) (f : Rw) : ∀ b j, b < 9 → j < cS b → ¬ (b = 0 ∧ j = 7) → cE t r (va_up x 4 f) b j = cE t r x b j := by
  intro b j hb hj hz
  have e1 : (va_up x 4 f) 1 = x 1 := if_neg (by decide)
  have e2 : (va_up x 4 f) 2 = x 2 := if_neg (by decide)
  have e3 : (va_up x 4 f) 3 = x 3 := if_neg (by decide)
  have e5 : (va_up x 4 f) 5 = x 5 := if_neg (by decide)
  have e9 : (va_up x 4 f) 9 = x 9 := if_neg (by decide)
  have e10 : (va_up x 4 f) 10 = x 10 := if_neg (by decide)
  have e11 : (va_up x 4 f) 11 = x 11 := if_neg (by decide)
  have e12 : (va_up x 4 f) 12 = x 12 := if_neg (by decide)
  match b, hb, hj, hz with
  | 0, _, hj, hz =>
    match j, hj, hz with
    | 0, _, _ => simp only [cE, cE0, cF0, cF1, cF2, e9]
    | 1, _, _ => simp only [cE, cE0, cF0, cF1, cF2, e10]
    | 2, _, _ => simp only [cE, cE0, cF0, cF1, cF2, e12]
    | 3, _, _ => simp only [cE, cE0]
    | 4, _, _ => simp only [cE, cE0]
    | 5, _, _ => simp only [cE, cE0]
    | 6, _, _ => simp only [cE, cE0]
    | 7, _, hz => exact absurd ⟨rfl, rfl⟩ hz
    | 8, _, _ => simp only [cE, cE0, cF0, cF1, cF2, e5]
    | j + 9, hj, _ => exact absurd hj (by show ¬ j + 9 < 9; omega)
  | 1, _, _, _ => simp only [cE]
  | 2, _, _, _ => simp only [cE, cE0, cF0, cF1, cF2, e1]
  | 3, _, _, _ => simp only [cE, cE0, cF0, cF1, cF2, e3]
  | 4, _, _, _ => simp only [cE, cE0, cF0, cF1, cF2, e2]
  | 5, _, _, _ => simp only [cE]
  | 6, _, _, _ => simp only [cE]
  | 7, _, _, _ => simp only [cE, cE0, cF0, cF1, cF2, e11]
  | 8, _, _, _ => simp only [cE]
  | b + 9, hb, _, _ => omega
theorem cE_5 (t : CT) (r r' : Rw) (x : Nat → Rw) (f : Rw) : ∀ b j, b < 9 → j < cS b → ¬ (b = 0 ∧ j = 8) → cE t r (va_up x 5 f) b j = cE t r x b j := by
  intro b j hb hj hz
  have e1 : (va_up x 5 f) 1 = x 1 := if_neg (by decide)
  have e2 : (va_up x 5 f) 2 = x 2 := if_neg (by decide)
  have e3 : (va_up x 5 f) 3 = x 3 := if_neg (by decide)
  have e4 : (va_up x 5 f) 4 = x 4 := if_neg (by decide)
  have e9 : (va_up x 5 f) 9 = x 9 := if_neg (by decide)
  have e10 : (va_up x 5 f) 10 = x 10 := if_neg (by decide)
  have e11 : (va_up x 5 f) 11 = x 11 := if_neg (by decide)
  have e12 : (va_up x 5 f) 12 = x 12 := if_neg (by decide)
  match b, hb, hj, hz with
  | 0, _, hj, hz =>
    match j, hj, hz with
    | 0, _, _ => simp only [cE, cE0, cF0, cF1, cF2, e9]
    | 1, _, _ => simp only [cE, cE0, cF0, cF1, cF2, e10]
    | 2, _, _ => simp only [cE, cE0, cF0, cF1, cF2, e12]
    | 3, _, _ => simp only [cE, cE0]
    | 4, _, _ => simp only [cE, cE0]
    | 5, _, _ => simp only [cE, cE0]
    | 6, _, _ => simp only [cE, cE0]
    | 7, _, _ => simp only [cE, cE0, cF0, cF1, cF2, e4]
    | 8, _, hz => exact absurd ⟨rfl, rfl⟩ hz
    | j + 9, hj, _ => exact absurd hj (by show ¬ j + 9 < 9; omega)
  | 1, _, _, _ => simp only [cE]
  | 2, _, _, _ => simp only [cE, cE0, cF0, cF1, cF2, e1]
  | 3, _, _, _ => simp only [cE, cE0, cF0, cF1, cF2, e3]
  | 4, _, _, _ => simp only [cE, cE0, cF0, cF1, cF2, e2]
  | 5, _, _, _ => simp only [cE]
  | 6, _, _, _ => simp only [cE]
  | 7, _, _, _ => simp only [cE, cE0, cF0, cF1, cF2, e11]
  | 8, _, _, _ => simp only [cE]
  | b + 9, hb, _, _ => omega
theorem cE_9 (t : CT) (r r' : Rw) (x : Nat → Rw) (f : Rw) : ∀ b j, b < 9 → j < cS b → ¬ (b = 0 ∧ j = 0) → cE t r (va_up x 9 f) b j = cE t r x b j := by
  intro b j hb hj hz
  have e1 : (va_up x 9 f) 1 = x 1 := if_neg (by decide)
  have e2 : (va_up x 9 f) 2 = x 2 := if_neg (by decide)
  have e3 : (va_up x 9 f) 3 = x 3 := if_neg (by decide)
  have e4 : (va_up x 9 f) 4 = x 4 := if_neg (by decide)
  have e5 : (va_up x 9 f) 5 = x 5 := if_neg (by decide)
  have e10 : (va_up x 9 f) 10 = x 10 := if_neg (by decide)
  have e11 : (va_up x 9 f) 11 = x 11 := if_neg (by decide)
  have e12 : (va_up x 9 f) 12 = x 12 := if_neg (by decide)
  match b, hb, hj, hz with
  | 0, _, hj, hz =>
    match j, hj, hz with
    | 0, _, hz => exact absurd ⟨rfl, rfl⟩ hz
    | 1, _, _ => simp only [cE, cE0, cF0, cF1, cF2, e10]
    | 2, _, _ => simp only [cE, cE0, cF0, cF1, cF2, e12]
    | 3, _, _ => simp only [cE, cE0]
    | 4, _, _ => simp only [cE, cE0]
    | 5, _, _ => simp only [cE, cE0]
    | 6, _, _ => simp only [cE, cE0]
    | 7, _, _ => simp only [cE, cE0, cF0, cF1, cF2, e4]
    | 8, _, _ => simp only [cE, cE0, cF0, cF1, cF2, e5]
    | j + 9, hj, _ => exact absurd hj (by show ¬ j + 9 < 9; omega)
  | 1, _, _, _ => simp only [cE]
  | 2, _, _, _ => simp only [cE, cE0, cF0, cF1, cF2, e1]
  | 3, _, _, _ => simp only [cE, cE0, cF0, cF1, cF2, e3]
  | 4, _, _, _ => simp only [cE, cE0, cF0, cF1, cF2, e2]
  | 5, _, _, _ => simp only [cE]
  | 6, _, _, _ => simp only [cE]
  | 7, _, _, _ => simp only [cE, cE0, cF0, cF1, cF2, e11]
  | 8, _, _, _ => simp only [cE]
  | b + 9, hb, _, _ => omega
theorem cE_10 (t : CT) (r r' : Rw) (x : Nat → Rw) (f : Rw) : ∀ b j, b < 9 → j < cS b → ¬ (b = 0 ∧ j = 1) → cE t r (va_up x 10 f) b j = cE t r x b j := by
  intro b j hb hj hz
  have e1 : (va_up x 10 f) 1 = x 1 := if_neg (by decide)
  have e2 : (va_up x 10 f) 2 = x 2 := if_neg (by decide)
  have e3 : (va_up x 10 f) 3 = x 3 := if_neg (by decide)
  have e4 : (va_up x 10 f) 4 = x 4 := if_neg (by decide)
  have e5 : (va_up x 10 f) 5 = x 5 := if_neg (by decide)
  have e9 : (va_up x 10 f) 9 = x 9 := if_neg (by decide)
  have e11 : (va_up x 10 f) 11 = x 11 := if_neg (by decide)
  have e12 : (va_up x 10 f) 12 = x 12 := if_neg (by decide)
  match b, hb, hj, hz with
  | 0, _, hj, hz =>
    match j, hj, hz with
    | 0, _, _ => simp only [cE, cE0, cF0, cF1, cF2, e9]
    | 1, _, hz => exact absurd ⟨rfl, rfl⟩ hz
    | 2, _, _ => simp only [cE, cE0, cF0, cF1, cF2, e12]
    | 3, _, _ => simp only [cE, cE0]
    | 4, _, _ => simp only [cE, cE0]
    | 5, _, _ => simp only [cE, cE0]
    | 6, _, _ => simp only [cE, cE0]
    | 7, _, _ => simp only [cE, cE0, cF0, cF1, cF2, e4]
    | 8, _, _ => simp only [cE, cE0, cF0, cF1, cF2, e5]
    | j + 9, hj, _ => exact absurd hj (by show ¬ j + 9 < 9; omega)
  | 1, _, _, _ => simp only [cE]
  | 2, _, _, _ => simp only [cE, cE0, cF0, cF1, cF2, e1]
  | 3, _, _, _ => simp only [cE, cE0, cF0, cF1, cF2, e3]
  | 4, _, _, _ => simp only [cE, cE0, cF0, cF1, cF2, e2]
  | 5, _, _, _ => simp only [cE]
  | 6, _, _, _ => simp only [cE]
  | 7, _, _, _ => simp only [cE, cE0, cF0, cF1, cF2, e11]
  | 8, _, _, _ => simp only [cE]
  | b + 9, hb, _, _ => omega
theorem cE_12 (t : CT) (r r' : Rw) (x : Nat → Rw) (f : Rw) : ∀ b j, b < 9 → j < cS b → ¬ (b = 0 ∧ j = 2) → cE t r (va_up x 12 f) b j = cE t r x b j := by
  intro b j hb hj hz
  have e1 : (va_up x 12 f) 1 = x 1 := if_neg (by decide)
  have e2 : (va_up x 12 f) 2 = x 2 := if_neg (by decide)
  have e3 : (va_up x 12 f) 3 = x 3 := if_neg (by decide)
  have e4 : (va_up x 12 f) 4 = x 4 := if_neg (by decide)
  have e5 : (va_up x 12 f) 5 = x 5 := if_neg (by decide)
  have e9 : (va_up x 12 f) 9 = x 9 := if_neg (by decide)
  have e10 : (va_up x 12 f) 10 = x 10 := if_neg (by decide)
  have e11 : (va_up x 12 f) 11 = x 11 := if_neg (by decide)
  match b, hb, hj, hz with
  | 0, _, hj, hz =>
    match j, hj, hz with
    | 0, _, _ => simp only [cE, cE0, cF0, cF1, cF2, e9]
    | 1, _, _ => simp only [cE, cE0, cF0, cF1, cF2, e10]
    | 2, _, hz => exact absurd ⟨rfl, rfl⟩ hz
    | 3, _, _ => simp only [cE, cE0]
    | 4, _, _ => simp only [cE, cE0]
    | 5, _, _ => simp only [cE, cE0]
    | 6, _, _ => simp only [cE, cE0]
    | 7, _, _ => simp only [cE, cE0, cF0, cF1, cF2, e4]
    | 8, _, _ => simp only [cE, cE0, cF0, cF1, cF2, e5]
    | j + 9, hj, _ => exact absurd hj (by show ¬ j + 9 < 9; omega)
  | 1, _, _, _ => simp only [cE]
  | 2, _, _, _ => simp only [cE, cE0, cF0, cF1, cF2, e1]
  | 3, _, _, _ => simp only [cE, cE0, cF0, cF1, cF2, e3]
  | 4, _, _, _ => simp only [cE, cE0, cF0, cF1, cF2, e2]
  | 5, _, _, _ => simp only [cE]
  | 6, _, _, _ => simp only [cE]
  | 7, _, _, _ => simp only [cE, cE0, cF0, cF1, cF2, e11]
  | 8, _, _, _ => simp only [cE]
  | b + 9, hb, _, _ => omega
theorem cX.up1 {t : CT} {r r' : Rw} {x : Nat → Rw} {H H1 : Heap} {s : State} (hK : cK t s) (h : cX t r x H) (hw : wW (wT t 100) r' H1) (oq : ∀ q : Nat, q < H.size → ¬ wA (wT t 100) q → H1[q]? = H[q]?) : cX t r' x H1 := h.world hK 1 (by decide) rfl hw oq (cE_r t r r' x r)
theorem cX.up2 {t : CT} {r f : Rw} {x : Nat → Rw} {H H1 : Heap} {s : State} (hK : cK t s) (h : cX t r x H) (hw : wW (wT t 200) f H1) (oq : ∀ q : Nat, q < H.size → ¬ wA (wT t 200) q → H1[q]? = H[q]?) : cX t r (va_up x 1 f) H1 := h.world hK 2 (by decide) rfl hw oq (cE_1 t r r x f)
theorem cX.up3 {t : CT} {r f : Rw} {x : Nat → Rw} {H H1 : Heap} {s : State} (hK : cK t s) (h : cX t r x H) (hw : wW (wT t 300) f H1) (oq : ∀ q : Nat, q < H.size → ¬ wA (wT t 300) q → H1[q]? = H[q]?) : cX t r (va_up x 3 f) H1 := h.world hK 3 (by decide) rfl hw oq (cE_3 t r r x f)
theorem cX.up4 {t : CT} {r f : Rw} {x : Nat → Rw} {H H1 : Heap} {s : State} (hK : cK t s) (h : cX t r x H) (hw : wW (wT t 400) f H1) (oq : ∀ q : Nat, q < H.size → ¬ wA (wT t 400) q → H1[q]? = H[q]?) : cX t r (va_up x 2 f) H1 := h.world hK 4 (by decide) rfl hw oq (cE_2 t r r x f)
section CR
variable {p : Program} {l : Launch} {e : Env} {R : Room} {s : State} {m : MethodId} {args : Array Value} {below : List Frame} {meth : Method} {c : Code} {H : Heap} {locs : List Loc} {cells slots : Nat} {Q : State → Prop}
variable {cc : ByteArray} {pc nL : Nat} {ls : Array Slot} {rest : List Value} {own : String} {A : Nat → Prop} {H0 : Heap} {t : CT} {r : Rw} {x : Nat → Rw}
theorem co_P1 {D : va_G} {a : Nat} {q : va_E} (h : va_at D cC (a, q) H) : va_P D cC [(a, q)] H := fun k z hz => by
  match k, hz with
  | 0, hz => cases hz; exact h
  | k + 1, hz => simp at hz
/-- one object's field: read, and written with what stays said cell by cell -/
theorem co_get {D : va_G} {tys : List (ClassId × FieldType)} (S : CallFix p m c cc nL s args lw_all own) (hK : va_K D cC tys s) {ci N a : Nat} {C : String} {T : u_T} {fs : List Value} (hc : cC[ci]? = some (C, T, N)) (hin : ∀ w ∈ u_ws C T N, w ∈ lw_all) (hP : va_at D cC (a, .inr (ci, fs)) H) (k : Nat) (hk : k < N) {index : Nat} {ref : String} (hlink : (Cond.fieldLink own index ref (T k).2.1 (T k).2.2.1).before args s = true) (hsame : (T k).1 = ref) {v : Value} (hv : fs[k]? = some v) (hdg : decode cc pc = .ok (.getfield index, 3))
    (kk : W p l e R s m args below meth c H locs cells slots Q (F0 m (pc + 3) ls (v :: rest))) : W p l e R s m args below meth c H locs cells slots Q (F0 m pc ls (.ref a :: rest)) :=
  va_get (D := D) (ci := ci) (v := v) (C := C) (T := T) (N := N) S.1 S.2.1 S.2.2.2.2 hin S.2.2.2.1 hK (co_P1 hP) 0 rfl hc k hk hlink (fun y h => by rw [hsame] at h; exact h) hv hdg kk
theorem co_getN {D : va_G} {tys : List (ClassId × FieldType)} (S : CallFix p m c cc nL s args lw_all own) (hK : va_K D cC tys s) {ci N a : Nat} {C : String} {T : u_T} {fs : List Value} (hc : cC[ci]? = some (C, T, N)) (hin : ∀ w ∈ u_ws C T N, w ∈ lw_all) (hP : va_at D cC (a, .inr (ci, fs)) H) (k : Nat) (hk : k < N) {index : Nat} {ref host : String} (hlink : (Cond.fieldLinkNest own index ref (T k).2.1 (T k).2.2.1 host).before args s = true) (hsame : (T k).1 = ref) {v : Value} (hv : fs[k]? = some v) (hdg : decode cc pc = .ok (.getfield index, 3))
    (kk : W p l e R s m args below meth c H locs cells slots Q (F0 m (pc + 3) ls (v :: rest))) : W p l e R s m args below meth c H locs cells slots Q (F0 m pc ls (.ref a :: rest)) :=
  va_getN (D := D) (ci := ci) (v := v) (C := C) (T := T) (N := N) S.1 S.2.1 S.2.2.2.2 hin S.2.2.2.1 hK (co_P1 hP) 0 rfl hc k hk hlink (fun y h => by rw [hsame] at h; exact h) hv hdg kk
theorem co_put {D : va_G} {tys : List (ClassId × FieldType)} (S : CallFix p m c cc nL s args lw_all own) (hK : va_K D cC tys s) {ci N a : Nat} {C : String} {T : u_T} {fs : List Value} (hc : cC[ci]? = some (C, T, N)) (hin : ∀ w ∈ u_ws C T N, w ∈ lw_all) (ty0 : Nat → FieldType) (hty : ∀ k, k < N → parseFieldDescriptor (T k).2.2.1 = some (ty0 k)) (hnm : ∀ a, a < N → ∀ b, b < N → a ≠ b → (T a).2.1 ≠ (T b).2.1) (hP : va_at D cC (a, .inr (ci, fs)) H) (hS : va_S A H0 H locs) (hA : A a) (k : Nat) (hk : k < N) (hl : k < fs.length) {index : Nat} {ref : String} (hlink : (Cond.fieldLink own index ref (T k).2.1 (T k).2.2.1).before args s = true) (hsame : (T k).1 = ref) (hfin : (T k).2.2.2 = false) {ty : FieldType} {v : Value} (hd : parseFieldDescriptor (T k).2.2.1 = some ty) (hn : narrow ty v = v) (hfit : fits ty v = true) (hdg : decode cc pc = .ok (.putfield index, 3))
    (kk : ∀ (H1 : Heap) (locs1 : List Loc), va_at D cC (a, .inr (ci, fs.set k v)) H1 → (∀ q : Nat, q ≠ a → H1[q]? = H[q]?) → va_S A H0 H1 locs1 → W p l e R s m args below meth c H1 locs1 cells slots Q (F0 m (pc + 3) ls rest)) : W p l e R s m args below meth c H locs cells slots Q (F0 m pc ls (v :: .ref a :: rest)) := by
  have hap := va_apart (D := D) (ci := ci) (own := own) (C := C) (T := T) (N := N) S.2.2.2.2 hin ty0 hty hnm hK hc
  obtain ⟨r0, h1, cell, q1, q2, q3, q4⟩ := hP
  have hr0 : r0 = (C, T, N) := Option.some.inj (h1.symm.trans hc)
  subst hr0
  obtain ⟨hSl, hfc, kC, hkC, hkind⟩ := hK.1 ci _ hc
  obtain ⟨cf, kf, fi, f, hi, hsl⟩ := hSl k hk
  have hlay := S.2.2.2.2 _ (hin _ (u_in_lay hk))
  unfold u_lay at hlay
  rw [if_neg (by rw [hfin]; decide)] at hlay
  have hst := (u_facts hfc hkC (u_lays S.2.2.2.2 hin hk) hi).1
  have h6 := u_store (v := v) hfc hkC hkind hlay hi hd hn hfit
  refine W.putK S.1 S.2.1 (f := f) ⟨S.2.2.2.1, hlink, ⟨_, _, _, by rw [hsame] at hi; exact hi⟩, hst⟩ (by rw [q2]; exact h6) q1 q3 (by rw [hsl]; exact k2_hasslot (q4 k hk)) rfl rfl hdg fun H' e1 e2 e3 => ?_
  rw [hsl] at e1 ⊢
  refine kk H' _ ⟨_, hc, t_OB.to (V := updV (vp_V fs) k v) ⟨_, e1, q2, q3, t_set q4 hap hk v⟩ (fun j _ => ?_)⟩ e3 (hS.put e2 e3 hA)
  exact vp_updV_set hl v j
theorem co_putN {D : va_G} {tys : List (ClassId × FieldType)} (S : CallFix p m c cc nL s args lw_all own) (hK : va_K D cC tys s) {ci N a : Nat} {C : String} {T : u_T} {fs : List Value} (hc : cC[ci]? = some (C, T, N)) (hin : ∀ w ∈ u_ws C T N, w ∈ lw_all) (ty0 : Nat → FieldType) (hty : ∀ k, k < N → parseFieldDescriptor (T k).2.2.1 = some (ty0 k)) (hnm : ∀ a, a < N → ∀ b, b < N → a ≠ b → (T a).2.1 ≠ (T b).2.1) (hP : va_at D cC (a, .inr (ci, fs)) H) (hS : va_S A H0 H locs) (hA : A a) (k : Nat) (hk : k < N) (hl : k < fs.length) {index : Nat} {ref host : String} (hlink : (Cond.fieldLinkNest own index ref (T k).2.1 (T k).2.2.1 host).before args s = true) (hsame : (T k).1 = ref) (hfin : (T k).2.2.2 = false) {ty : FieldType} {v : Value} (hd : parseFieldDescriptor (T k).2.2.1 = some ty) (hn : narrow ty v = v) (hfit : fits ty v = true) (hdg : decode cc pc = .ok (.putfield index, 3))
    (kk : ∀ (H1 : Heap) (locs1 : List Loc), va_at D cC (a, .inr (ci, fs.set k v)) H1 → (∀ q : Nat, q ≠ a → H1[q]? = H[q]?) → va_S A H0 H1 locs1 → W p l e R s m args below meth c H1 locs1 cells slots Q (F0 m (pc + 3) ls rest)) : W p l e R s m args below meth c H locs cells slots Q (F0 m pc ls (v :: .ref a :: rest)) := by
  have hap := va_apart (D := D) (ci := ci) (own := own) (C := C) (T := T) (N := N) S.2.2.2.2 hin ty0 hty hnm hK hc
  obtain ⟨r0, h1, cell, q1, q2, q3, q4⟩ := hP
  have hr0 : r0 = (C, T, N) := Option.some.inj (h1.symm.trans hc)
  subst hr0
  obtain ⟨hSl, hfc, kC, hkC, hkind⟩ := hK.1 ci _ hc
  obtain ⟨cf, kf, fi, f, hi, hsl⟩ := hSl k hk
  have hlay := S.2.2.2.2 _ (hin _ (u_in_lay hk))
  unfold u_lay at hlay
  rw [if_neg (by rw [hfin]; decide)] at hlay
  have hst := (u_facts hfc hkC (u_lays S.2.2.2.2 hin hk) hi).1
  have h6 := u_store (v := v) hfc hkC hkind hlay hi hd hn hfit
  refine va_WputK S.1 S.2.1 (f := f) S.2.2.2.1 hlink (by rw [hsame] at hi; exact hi) hst (by rw [q2]; exact h6) q1 q3 (by rw [hsl]; exact k2_hasslot (q4 k hk)) rfl rfl hdg fun H' e1 e2 e3 => ?_
  rw [hsl] at e1 ⊢
  refine kk H' _ ⟨_, hc, t_OB.to (V := updV (vp_V fs) k v) ⟨_, e1, q2, q3, t_set q4 hap hk v⟩ (fun j _ => ?_)⟩ e3 (hS.put e2 e3 hA)
  exact vp_updV_set hl v j
end CR

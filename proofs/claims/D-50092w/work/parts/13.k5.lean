/-! calls: into the callee, back from it; what is thrown -/
def CodeL (y : MethodName) (bytes : ByteArray) (maxL : Nat) (ret : Option FieldType) : Prop := Cond.code y bytes maxL ret ∈ lw_all ∨ ∃ hh, Cond.codeWith y bytes maxL ret hh ∈ lw_all
def npoly (C : String) : Prop := C ≠ "java/lang/invoke/MethodHandle" ∧ C ≠ "java/lang/invoke/VarHandle"
def arity (y : MethodName) (n : Nat) : Prop := (parseMethodDescriptor y.desc).map (fun d => d.parameters.length) = some n
theorem arity_len {y : MethodName} {n : Nat} (h : arity y n) : ∀ sig, parseMethodDescriptor y.desc = some sig → n = sig.parameters.length := by
  intro sig hs
  unfold arity at h
  rw [hs] at h
  exact (Option.some.inj h).symm
theorem tex_tcl {t : Nat} (h : tex t = true) : tcl t = true := by
  have h1 : t = 10 ∨ (23 ≤ t ∧ t ≤ 26) := by simpa [tex] using h
  have h2 : 1 ≤ t ∧ t ≤ 26 := by omega
  simpa [tcl] using h2
theorem zPc_blind {as : List Value} {G : Hp} : FrameBlind (zPc as G) := fun a U g mk h => ⟨h.1, HpA.moved (u := U) (U := U.calling g mk a) (Vm.Alike.refl _) h.2.1, strK.same rfl (fun q _ => vk_R.same rfl) h.2.2.1, TK.same (s := U) (U := U.calling g mk a) rfl h.2.2.2⟩
section KCA
variable {p : Program} {l : Launch} {e : Env} {R : Room} {s : State} {m : MethodId} {args : Array Value} {below : List Frame} {meth : Method} {c : Code} {Q : State → Prop} {x0 s0 : Nat}
variable {d : Nat} {G : Hp} {pc : Nat} {ls st : List Value} {cc : ByteArray} {H : Heap} {lsA : Array Slot} {rest As : List Value} {y : MethodName} {bytes : ByteArray} {maxL index : Nat} {ret : Option FieldType} {own : String}
theorem codeL_spec (hts : ∀ w ∈ lw_all, w.before args s = true) (h : CodeL y bytes maxL ret) : ∃ mk methM, s.methodNamed? y = some mk ∧ s.vm.method? mk = some methM ∧ methM.sig.returnType = ret ∧ parseMethodDescriptor y.desc = some methM.sig := by
  rcases h with h | ⟨hh, h⟩
  · obtain ⟨mk, hn⟩ := Cond.code_named (hts _ h)
    obtain ⟨methM, cM, h1, -, -, -, h2, -, -, h3⟩ := Cond.code_spec hn (hts _ h)
    exact ⟨mk, methM, hn, h1, h2, h3⟩
  · obtain ⟨mk, methM, cM, hn, h1, -, -, -, -, h2, -, h3⟩ := Cond.codeWith_spec (hts _ h)
    exact ⟨mk, methM, hn, h1, h2, h3⟩
/-- the instruction at g comes to the callee's start -/
def Into (p : Program) (l : Launch) (e : Env) (R : Room) (s : State) (m : MethodId) (args : Array Value) (below : List Frame) (meth : Method) (c : Code) (H : Heap) (y : MethodName) (As : List Value) (len : Nat) (g : JFrame) (rest : List Value) : Prop :=
  ∀ (T : State) (locs : List Loc) (cells slots : Nat), T.heap = H → Stand p l e R s m args below meth c T locs cells slots →
    ∃ (mk : MethodId) (vm₁ : Vm) (ig : Instr), s.methodNamed? y = some mk ∧ Stand p l e R s m args below meth c (T.setVm vm₁) locs cells slots ∧ s.WarmedH vm₁ ∧ decode c.code g.pc = .ok (ig, len) ∧
      ∀ target, Steps p.tables e below (doInvoke e ((T.setVm vm₁).setTop { g with stack := rest }) [] mk As.toArray).1 target → Steps p.tables e below (T.setTop g) target
theorem into_S (hts : ∀ w ∈ lw_all, w.before args s = true) (hc : CodeL y bytes maxL ret) (hown : s.vm.findClass own = some m.cls) (hx : p.tables.exec = Jvm.exec) (hb : c.code = cc) (hl : Cond.methodLink own index y ∈ lw_all ∨ ∃ host, va_Nw (.methodLinkNest own index y host) s) (hst : Cond.static y ∈ lw_all) (hini : Cond.initialized y.cls ∈ lw_all) (hy : npoly y.cls) (har : arity y As.length)
    (hg : decode cc pc = .ok (.invokestatic index, 3)) : Into p l e R s m args below meth c H y As 3 (F0 m pc lsA (As.reverse ++ rest)) rest := by
  intro T locs cells slots hT X
  obtain ⟨mk, methM, hnamed, hmethM, -, hsig⟩ := codeL_spec hts hc
  have hstatic : methM.isStatic = true := Cond.static_spec hnamed hmethM (hts _ hst)
  obtain ⟨kP, hkP, -⟩ := className_of_methodNamed hnamed
  have hinitP : kP.init = .initialized := Cond.initialized_spec (findClass_of_methodNamed hnamed) hkP (hts _ hini)
  rcases hl with hl | ⟨host, hl⟩
  · obtain ⟨vm₁, X₁, hstep₁⟩ := X.invokestatic hx hown (hts _ hl) hnamed hmethM hstatic hkP hinitP hy (g := F0 m pc lsA (As.reverse ++ rest)) rfl (argsL := As) (rest := rest) (arity_len har _ hsig) rfl (by rw [hb]; exact hg)
    exact ⟨mk, vm₁, _, hnamed, X₁, X₁.warmed, by rw [hb]; exact hg, fun target h => hstep₁ _ fun acts => by rw [doInvoke_state]; exact h⟩
  · obtain ⟨vm₁, X₁, hstep₁⟩ := X.invokestaticNest hx hown (va_Nw.use (A := args) rfl hl) hnamed hmethM hstatic hkP hinitP hy (g := F0 m pc lsA (As.reverse ++ rest)) rfl (argsL := As) (rest := rest) (arity_len har _ hsig) rfl (by rw [hb]; exact hg)
    exact ⟨mk, vm₁, _, hnamed, X₁, X₁.warmed, by rw [hb]; exact hg, fun target h => hstep₁ _ fun acts => by rw [doInvoke_state]; exact h⟩
theorem into_V {C : String} {b : Nat} (hts : ∀ w ∈ lw_all, w.before args s = true) (hc : CodeL y bytes maxL ret) (hown : s.vm.findClass own = some m.cls) (hx : p.tables.exec = Jvm.exec) (hb : c.code = cc) (hl : Cond.methodLink own index y ∈ lw_all ∨ ∃ host, va_Nw (.methodLinkNest own index y host) s) (hin : Cond.instanceMethod y ∈ lw_all) (hse : Cond.selects C y y ∈ lw_all) (hy : npoly y.cls) (har : arity y As.length)
    (hr : ∃ cell : Cell, H[b]? = some cell ∧ cell.vm.isStatics = false ∧ s.vm.findClass C = some cell.cls) (hg : decode cc pc = .ok (.invokevirtual index, 3)) : Into p l e R s m args below meth c H y (.ref b :: As) 3 (F0 m pc lsA (As.reverse ++ .ref b :: rest)) rest := by
  intro T locs cells slots hT X
  obtain ⟨cellB, hcB, hobj, hcls⟩ := hr
  obtain ⟨mk, methM, hnamed, hmethM, hstM, habM⟩ := Cond.instanceMethod_spec (hts _ hin)
  obtain ⟨mk', methM', hnamed', hmethM', -, hsigM⟩ := codeL_spec hts hc
  cases hnamed.symm.trans hnamed'
  cases hmethM.symm.trans hmethM'
  obtain ⟨c2, r2, m2, q1, q2, q3, q4, kP, hkP, hkPi⟩ := Cond.selects_spec (hts _ hse)
  cases hcls.symm.trans q1
  cases (State.methodFound?_of_named hnamed hy).symm.trans q2
  cases hnamed.symm.trans q3
  have hselP : selectMethod e.platform s.vm cellB.cls mk = .method mk := by rw [Launch.admits_selectMethod X.admits]; exact q4
  rcases hl with hl | ⟨host, hl⟩
  · obtain ⟨vm₁, X₁, hstep₁⟩ := X.invokevirtual hx hown (hts _ hl) hnamed hmethM hstM hkP hkPi hy (a := b) (cell := cellB) (by rw [hT]; exact hcB)
      (fun z h => by rw [h] at hobj; cases hobj) hselP hmethM habM hkP hkPi (g := F0 m pc lsA (As.reverse ++ .ref b :: rest)) rfl (argsL := As) (rest := rest) (arity_len har _ hsigM) rfl (by rw [hb]; exact hg)
    exact ⟨mk, vm₁, _, hnamed, X₁, X₁.warmed, by rw [hb]; exact hg, fun target h => hstep₁ _ fun acts => by rw [doInvoke_state]; exact h⟩
  · obtain ⟨vm₁, X₁, hstep₁⟩ := X.invokevirtualNest hx hown (va_Nw.use (A := args) rfl hl) hnamed hmethM hstM hkP hkPi hy (a := b) (cell := cellB) (by rw [hT]; exact hcB)
      (fun z h => by rw [h] at hobj; cases hobj) hselP hmethM habM hkP hkPi (g := F0 m pc lsA (As.reverse ++ .ref b :: rest)) rfl (argsL := As) (rest := rest) (arity_len har _ hsigM) rfl (by rw [hb]; exact hg)
    exact ⟨mk, vm₁, _, hnamed, X₁, X₁.warmed, by rw [hb]; exact hg, fun target h => hstep₁ _ fun acts => by rw [doInvoke_state]; exact h⟩
/-- through a name that a class above declares -/
theorem into_U {C owner : String} {b : Nat} {x : MethodName} (hts : ∀ w ∈ lw_all, w.before args s = true) (hc : CodeL y bytes maxL ret) (hown : s.vm.findClass own = some m.cls) (hx : p.tables.exec = Jvm.exec) (hb : c.code = cc) (hl : (Cond.methodLink own index x).before args s = true) (hsame : (Cond.sameMethod x.cls owner x.name x.desc).before args s = true) (hd0 : va_Decl s ⟨owner, x.name, x.desc⟩) (howner : npoly owner) (hin : Cond.instanceMethod y ∈ lw_all) (hse : Cond.selects C x y ∈ lw_all ∨ Cond.selects C ⟨owner, x.name, x.desc⟩ y ∈ lw_all) (har : arity x As.length)
    (hr : ∃ cell : Cell, H[b]? = some cell ∧ cell.vm.isStatics = false ∧ s.vm.findClass C = some cell.cls) (hg : decode cc pc = .ok (.invokevirtual index, 3)) : Into p l e R s m args below meth c H y (.ref b :: As) 3 (F0 m pc lsA (As.reverse ++ .ref b :: rest)) rest := by
  intro T locs cells slots hT X
  obtain ⟨cellB, hcB, hobj, hcls⟩ := hr
  obtain ⟨r0, r, hn, hrm, hstR, hsigR⟩ := hd0
  obtain ⟨cn, ck, r1, hcn, hck, hni, hf, hn1⟩ := Cond.sameMethod_found hsame
  cases hn.symm.trans hn1
  obtain ⟨mk, methM, hnamed, hmethM, -, habM⟩ := Cond.instanceMethod_spec (hts _ hin)
  have hq : ∃ (c2 : ClassId), s.vm.findClass C = some c2 ∧ selectMethod ({} : Platform) s.vm c2 r0 = .method mk ∧ ∃ kP : Class, s.vm.classes[mk.cls]? = some kP ∧ kP.isInterface = false := by
    rcases hse with hse | hse
    · obtain ⟨c2, r2, m2, q1, q2, q3, q4, kP, hkP, hkPi⟩ := Cond.selects_spec (hts _ hse)
      cases hf.symm.trans q2
      cases hnamed.symm.trans q3
      exact ⟨c2, q1, q4, kP, hkP, hkPi⟩
    · obtain ⟨c2, r2, m2, q1, q2, q3, q4, kP, hkP, hkPi⟩ := Cond.selects_spec (hts _ hse)
      cases (State.methodFound?_of_named hn howner).symm.trans q2
      cases hnamed.symm.trans q3
      exact ⟨c2, q1, q4, kP, hkP, hkPi⟩
  obtain ⟨c2, q1, q4, kP, hkP, hkPi⟩ := hq
  cases hcls.symm.trans q1
  have hselP : selectMethod e.platform s.vm cellB.cls r0 = .method mk := by rw [Launch.admits_selectMethod X.admits]; exact q4
  obtain ⟨vm₁, X₁, hstep₁⟩ := X.invokevirtualUp hx hown hl hsame howner hn hrm hstR (a := b) (cell := cellB) (by rw [hT]; exact hcB)
    (fun z h => by rw [h] at hobj; cases hobj) hselP hmethM habM hkP hkPi (g := F0 m pc lsA (As.reverse ++ .ref b :: rest)) rfl (argsL := As) (rest := rest) (arity_len har _ hsigR) rfl (by rw [hb]; exact hg)
  exact ⟨mk, vm₁, _, hnamed, X₁, X₁.warmed, by rw [hb]; exact hg, fun target h => hstep₁ _ fun acts => by rw [doInvoke_state]; exact h⟩
theorem into_I {b : Nat} (hts : ∀ w ∈ lw_all, w.before args s = true) (hc : Cond.code y bytes maxL none ∈ lw_all) (hown : s.vm.findClass own = some m.cls) (hx : p.tables.exec = Jvm.exec) (hb : c.code = cc) (hl : Cond.methodLink own index y ∈ lw_all ∨ ∃ host, va_Nw (.methodLinkNest own index y host) s) (hin : Cond.instanceMethod y ∈ lw_all) (hy1 : y.name = "<init>") (hy : npoly y.cls) (har : arity y As.length) (hsize : lsA.size = c.maxLocals)
    (hg : decode cc pc = .ok (.invokespecial index, 3)) : Into p l e R s m args below meth c H y (.ref b :: As) 3 (F0 m pc lsA (As.reverse ++ .ref b :: rest)) rest := by
  intro T locs cells slots hT X
  have hpl : e.platform.magicAccessors = ({} : Platform).magicAccessors := by rw [X.admits.platform]
  rcases hl with hl | ⟨host, hl⟩
  · obtain ⟨mk, methM, cM, kP, vm₁, hnamed, hmethM, hcodeM, -, hlocalsM, -, hkP, -, hW₁, hstep₁⟩ := Steps.initColdArgs (e := e) X.here hx X.warmed hpl hown hy1 hy (hts _ hl) (hts _ hin) (hts _ hc) (f := F0 m pc lsA (As.reverse ++ .ref b :: rest)) rfl (arity_len har) rfl (by rw [hb]; exact hg)
    exact ⟨mk, vm₁, _, hnamed, X.noted hW₁, (X.noted hW₁).warmed, by rw [hb]; exact hg, fun target h => hstep₁ _ fun acts => by rw [doInvoke_state]; exact h⟩
  · obtain ⟨mk, methM, cM, kP, vm₁, hnamed, hmethM, hcodeM, -, hlocalsM, -, hkP, -, hW₁, hstep₁⟩ := Steps.initColdArgsNest (e := e) X.here hx X.warmed hpl hown hy1 hy (va_Nw.use (A := args) rfl hl) (hts _ hin) (hts _ hc) (f := F0 m pc lsA (As.reverse ++ .ref b :: rest)) rfl (arity_len har) rfl (by rw [hb]; exact hg)
    exact ⟨mk, vm₁, _, hnamed, X.noted hW₁, (X.noted hW₁).warmed, by rw [hb]; exact hg, fun target h => hstep₁ _ fun acts => by rw [doInvoke_state]; exact h⟩
theorem into_SU {b : Nat} (hts : ∀ w ∈ lw_all, w.before args s = true) (hc : CodeL y bytes maxL ret) (hown : s.vm.findClass own = some m.cls) (hx : p.tables.exec = Jvm.exec) (hb : c.code = cc) (hl : Cond.methodLink own index y ∈ lw_all) (hsame : Cond.sameMethod y.cls y.cls y.name y.desc ∈ lw_all) (hsup : Cond.superclass own y.cls ∈ lw_all) (hin : Cond.instanceMethod y ∈ lw_all) (hno : y.name ≠ "<init>") (har : arity y As.length)
    {C : String} (hr : ∃ cell : Cell, H[b]? = some cell ∧ cell.vm.isStatics = false ∧ s.vm.findClass C = some cell.cls) (hg : decode cc pc = .ok (.invokespecial index, 3)) : Into p l e R s m args below meth c H y (.ref b :: As) 3 (F0 m pc lsA (As.reverse ++ .ref b :: rest)) rest := by
  intro T locs cells slots hT X
  obtain ⟨cellB, hcB, hobj, hcls⟩ := hr
  obtain ⟨kB, hkB⟩ := fc_get hcls
  obtain ⟨mk, methM, hnamed, hmethM, hstM, habM⟩ := Cond.instanceMethod_spec (hts _ hin)
  obtain ⟨mk', methM', hnamed', hmethM', -, hsigM⟩ := codeL_spec hts hc
  cases hnamed.symm.trans hnamed'
  cases hmethM.symm.trans hmethM'
  obtain ⟨ps, dk, kp, hps, hdk, hkp, hsuper, -, -, hnid⟩ := Cond.superclass_spec hown (hts _ hsup)
  have hn : s.methodNamed? ⟨y.cls, y.name, y.desc⟩ = some mk := hnamed
  have hpm : ps = mk.cls := Option.some.inj (hps.symm.trans (findClass_of_methodNamed hnamed))
  have hsub : s.vm.isSubclass ps mk.cls = true := by rw [hpm]; simp [Vm.isSubclass, Vm.isSubclassAux]
  obtain ⟨vm₁, X₁, hstep₁⟩ := X.invokespecialUp hx hown (hts _ hl) (hts _ hsame) hn hmethM hstM habM hno hdk hnid hps hsuper hsub (a := b) (cell := cellB) (by rw [hT]; exact hcB)
    (fun z h => by rw [h] at hobj; cases hobj) hkB (g := F0 m pc lsA (As.reverse ++ .ref b :: rest)) rfl (argsL := As) (rest := rest) (arity_len har _ hsigM) rfl (by rw [hb]; exact hg)
  exact ⟨mk, vm₁, _, hnamed, X₁, X₁.warmed, by rw [hb]; exact hg, fun target h => hstep₁ _ (by rw [doInvoke_state]; exact h)⟩
theorem into_F {C : String} {b count : Nat} {x : MethodName} (hts : ∀ w ∈ lw_all, w.before args s = true) (hown : s.vm.findClass own = some m.cls) (hx : p.tables.exec = Jvm.exec) (hb : c.code = cc) (hl : Cond.methodLink own index x ∈ lw_all) (hF : npoly x.cls ∧ va_Fw C x y s) (hin : Cond.instanceMethod y ∈ lw_all) (hse : Cond.selects C x y ∈ lw_all) (har : arity x As.length)
    (hr : ∃ cell : Cell, H[b]? = some cell ∧ cell.vm.isStatics = false ∧ s.vm.findClass C = some cell.cls) (hg : decode cc pc = .ok (.invokeinterface index count, 5)) : Into p l e R s m args below meth c H y (.ref b :: As) 5 (F0 m pc lsA (As.reverse ++ .ref b :: rest)) rest := by
  intro T locs cells slots hT X
  obtain ⟨hnp, f1, f2, f3, f4, f5⟩ := hF
  obtain ⟨cellB, hcB, hobj, hcls⟩ := hr
  obtain ⟨kB, hkB⟩ := fc_get hcls
  obtain ⟨r0, r, hn, hrm, hstR, hsigR⟩ := Cond.declares_spec f1
  obtain ⟨cL, kL, r1, hcL, hkL, hiL, hfoundL, hn1⟩ := Cond.interfaceMethod_spec f2
  cases hn.symm.trans hn1
  have hr0cls : r0.cls = cL := Option.some.inj ((findClass_of_methodNamed hn).symm.trans hcL)
  obtain ⟨hnameR, hdescR⟩ := name_of_methodNamed hn hrm
  obtain ⟨mk, methM, hnamed, hmethM, -, habM⟩ := Cond.instanceMethod_spec (hts _ hin)
  obtain ⟨c2, r2, m2, q1, q2, q3, q4, -⟩ := Cond.selects_spec (hts _ hse)
  cases hcls.symm.trans q1
  cases hfoundL.symm.trans q2
  cases hnamed.symm.trans q3
  have hselP : selectMethod e.platform s.vm cellB.cls r0 = .method mk := by rw [Launch.admits_selectMethod X.admits]; exact q4
  have hpubM : hasFlag methM.accessFlags Acc.public_ = true := Cond.publicMethod_spec hnamed hmethM f3
  have hway : ((cellB.cls :: s.vm.superclasses cellB.cls).any fun k => (declaredIn s.vm r.name r.desc k).any fun (_, z) => z.isPrivate || z.isStatic) = false := by
    rw [hnameR, hdescR]; exact Cond.unhidden_spec hcls f4
  obtain ⟨c3, t3, w1, w2, w3⟩ := Cond.castable_spec f5
  cases hcls.symm.trans w1
  cases hcL.symm.trans w2
  obtain ⟨vm₁, X₁, hstep₁⟩ := X.invokeinterface hx hown (hts _ hl) hn hrm hstR (by rw [hr0cls]; exact hkL) hiL hnp (a := b) (cell := cellB) (kcell := kB) (by rw [hT]; exact hcB)
    (fun z h => by rw [h] at hobj; cases hobj) hkB (by rw [hr0cls]; exact w3) hselP hmethM hway hpubM habM (g := F0 m pc lsA (As.reverse ++ .ref b :: rest)) rfl (argsL := As) (rest := rest) (arity_len har _ hsigR) rfl (by rw [hb]; exact hg)
  exact ⟨mk, vm₁, _, hnamed, X₁, X₁.warmed, by rw [hb]; exact hg, fun target h => hstep₁ _ fun acts => by rw [doInvoke_state]; exact h⟩
/-- the rows of a table of handlers, at a pc for a thrown class -/
def TB (s : State) (args : Array Value) (own : String) (tb : List ExceptionTableEntry) (pc : Nat) (hd : Nat → Option Nat) : Prop := ∀ t, tex t = true →
  (hd t = none ∧ ∀ z ∈ tb, covers z pc = false ∨ (z.catchType ≠ 0 ∧ ∃ nm : String, (Cond.classLink own z.catchType nm).before args s = true ∧ va_Nc (cNm t) nm s)) ∨
  (∃ h pre x suf, hd t = some h ∧ tb = pre ++ x :: suf ∧ (∀ z ∈ pre, covers z pc = false ∨ (z.catchType ≠ 0 ∧ ∃ nm : String, (Cond.classLink own z.catchType nm).before args s = true ∧ va_Nc (cNm t) nm s)) ∧ covers x pc = true ∧ x.catchType = 0 ∧ x.handlerPc = h) ∨
  ∃ h pre x suf name, hd t = some h ∧ tb = pre ++ x :: suf ∧ (∀ z ∈ pre, covers z pc = false ∨ (z.catchType ≠ 0 ∧ ∃ nm : String, (Cond.classLink own z.catchType nm).before args s = true ∧ va_Nc (cNm t) nm s)) ∧ covers x pc = true ∧ x.catchType ≠ 0 ∧ x.handlerPc = h ∧ (Cond.classLink own x.catchType name).before args s = true ∧ (Cond.castable (cNm t) name).before args s = true
theorem TB_nil {hd : Nat → Option Nat} (h : ∀ t, hd t = none) : TB s args own [] pc hd := fun t _ => Or.inl ⟨h t, fun z hz => by cases hz⟩
/-- caught by a row that takes all -/
theorem vx_catchA {own : String} {E : String} {ce : Cell} {q : Addr} {locs : List Loc} {cells slots : Nat} {ls : Array Slot} {rest : List Value} (hown : s.vm.findClass own = some m.cls) (pre : List ExceptionTableEntry) (x : ExceptionTableEntry) (suf : List ExceptionTableEntry) (hsplit : c.exceptionTable.toList = pre ++ x :: suf)
    (hpass : ∀ z ∈ pre, covers z pc = false ∨ (z.catchType ≠ 0 ∧ ∃ nm : String, (Cond.classLink own z.catchType nm).before args s = true ∧ va_Nc E nm s)) (hx : covers x pc = true) (h0 : x.catchType = 0)
    (hcell : H[q]? = some ce) (hv : ce.vm = .none) (hcl : s.vm.findClass E = some ce.cls)
    (kk : W p l e R s m args below meth c H locs cells slots Q (F0 m x.handlerPc ls [.ref q])) : vx_W p l e R s m args below meth c H locs cells slots Q (F0 m pc ls rest) q := by
  intro T hT X
  have hpl : e.platform.magicAccessors = ({} : Platform).magicAccessors := by rw [X.admits.platform]
  obtain ⟨vm', X', st⟩ := X.thenCaughtThrough q (g := F0 m pc ls rest) rfl (Steps.refl _) (by rw [hT]; exact hcell) (by rw [hv]; rfl) (by obtain ⟨k9, h9, -⟩ := Vm.findClass_spec hcl; exact ⟨k9, h9⟩) pre x suf hsplit
    (fun z hz => by
      rcases hpass z hz with h | ⟨hz0, nm, hl1, hn1⟩
      · exact Or.inl h
      · obtain ⟨c6, hc6, hcl6⟩ := Cond.classLink_spec hown hl1 e.platform hpl
        obtain ⟨a8, b8, h1, h2, h3⟩ := hn1
        cases Option.some.inj (h1.symm.trans hcl)
        cases Option.some.inj (h2.symm.trans hc6)
        exact Or.inr ⟨hz0, _, hcl6, h3⟩) hx (Or.inl h0)
  obtain ⟨t, a1, b1⟩ := kk (T.setVm vm') hT X'
  exact ⟨t, st.trans a1, b1⟩
/-- a is thrown at pc: on to the handler, or out -/
theorem exc_go {hd : Nat → Option Nat} {tb : List ExceptionTableEntry} {G' : Hp} {a : Nat} {locs : List Loc} {rest : List Value} (hown : s.vm.findClass own = some m.cls) (htb : c.exceptionTable.toList = tb) (hT : TB s args own tb pc hd) (hlk : meth.locks = false) (hE : Exc p l e R s m args below meth c Q x0 s0 hd G' ls a) (ht : tex (gT G' a) = true) (hba : gB G' ≤ a)
    (h1 : LsOK lsA c.maxLocals ls) (h2 : HpA s H G') (h3 : strK s G') (h4 : ∀ q ∈ locs, gB G' ≤ q.base) (h5 : x0 ≤ gX G') (h6 : s0 ≤ gS G') :
    vx_W p l e R s m args below meth c H locs (gX G' - x0) (gS G' - s0) Q (F0 m pc lsA rest) a := by
  have hcell : ∃ cell : Cell, H[a]? = some cell ∧ cell.vm = .none ∧ s.vm.findClass (cNm (gT G' a)) = some cell.cls := by
    have htc := tex_tcl ht
    obtain ⟨-, -, ⟨D, cA, hK, hc⟩, -, -⟩ := h2
    rcases hc a with q | ⟨cell, q1, q2, q3, q4, ⟨-, q6, -⟩ | ⟨q, -⟩ | ⟨q, -⟩⟩
    · rw [q] at htc; exact absurd htc tcl_0
    · exact ⟨cell, q1, q4 hba, by rw [q6]; exact (hK.1 _ htc).2.1⟩
    · exact (tcl_tar htc q).elim
    · exact (tcl_tlm htc q).elim
  obtain ⟨ce, c1, c2, c3⟩ := hcell
  rcases hT _ ht with ⟨n1, n2⟩ | ⟨h, pre, x, suf, s1, s2, s3, s4, s5, s6⟩ | ⟨h, pre, x, suf, name, s1, s2, s3, s4, s5, s6, s7, s8⟩
  · rcases hE with ⟨-, hR1, hR2, hQ⟩ | ⟨h, hs, -⟩
    · subst hQ
      refine vx_outP hown hlk (by rw [htb]; exact n2) c1 c2 c3 (fun t e1 e2 => ⟨rfl, by rw [e1]; exact h2.moved e2, rfl, ht, hba⟩) h4 ?_ ?_
      · rw [hR1]; exact Nat.le_refl _
      · rw [hR2]; exact Nat.le_refl _
    · rw [n1] at hs; cases hs
  · rcases hE with ⟨hn, -⟩ | ⟨h', hs, hw⟩
    · rw [s1] at hn; cases hn
    · cases s1.symm.trans hs
      refine vx_catchA hown pre x suf (by rw [htb]; exact s2) s3 s4 s5 c1 c2 c3 ?_
      rw [s6]
      exact hw lsA H locs h1 h2 h3 h4 h5 h6
  · rcases hE with ⟨hn, -⟩ | ⟨h', hs, hw⟩
    · rw [s1] at hn; cases hn
    · cases s1.symm.trans hs
      refine vx_catch hown pre x suf (by rw [htb]; exact s2) s3 s4 s5 s7 s8 c1 c2 c3 ?_
      rw [s6]
      exact hw lsA H locs h1 h2 h3 h4 h5 h6
/-- a call, by its way in -/
theorem k_callR {yr : Nat → Option FieldType} {yi len pc' : Nat} {hd : Nat → Option Nat} {as st' : List Value} (yn : Nat → MethodName) (hyn : yn yi = y) (hts : ∀ w ∈ lw_all, w.before args s = true) (htk : TK s) (hc : CodeL y bytes maxL ret) (hmax : maxL ≤ 111) (hRf : ∀ d', d = d' + 1 → 2 * d' + 21 ≤ R.frames) (hRl : ∀ d', d = d' + 1 → 260 * d' + 4130 ≤ R.locals) (hrest : (st'.map fun v => v.category).sum ≤ 8)
    (hEx : ∀ {G' : Hp} {a : Nat} {H : Heap} {lsA : Array Slot} {locs : List Loc}, Exc p l e R s m args below meth c Q x0 s0 hd G' ls a → tex (gT G' a) = true → gB G' ≤ a → LsOK lsA c.maxLocals ls → HpA s H G' → strK s G' → (∀ q ∈ locs, gB G' ≤ q.base) → x0 ≤ gX G' → s0 ≤ gS G' → vx_W p l e R s m args below meth c H locs (gX G' - x0) (gS G' - s0) Q (F0 m pc lsA st') a) (hpc : pc + len = pc')
    (hI : ∀ (lsA : Array Slot) (H : Heap), LsOK lsA c.maxLocals ls → HpA s H G → Into p l e R s m args below meth c H y as len (F0 m pc lsA st) st') :
    CmdK p l e R s m args below meth c Q x0 s0 (fun d' y' as G o G' => zMet l (yn y') lw_all d' as G o G' ∧ TyO (yr y') o) hd d G pc ls st (cC yi as pc' st') := by
  intro d' o G' hd1 hgr hcl hsl hmet hk lsA H locs h1 h2 h3 h4 h5 h6
  have hRf := hRf d' hd1
  have hRl := hRl d' hd1
  subst hd1
  subst hpc
  replace hmet := hmet.1
  rw [hyn] at hmet
  obtain ⟨gK1, gX1, gS1⟩ := hgr
  have hws : ∀ w ∈ lw_all, ∀ (a' : Array Value) (U : State), s.WarmedH U.vm → w.before a' U = true := pay_in hts lw_self
  have hrc9 : (RM d' (gX G' - gX G) (gS G' - gS G)).cells = gX G' - gX G := rfl
  have hrs9 : (RM d' (gX G' - gX G) (gS G' - gS G)).slots = gS G' - gS G := rfl
  have hfr9 : (RM d' (gX G' - gX G) (gS G' - gS G)).frames + 1 ≤ R.frames := by
    have : (RM d' (gX G' - gX G) (gS G' - gS G)).frames = 2 * d' + 20 := rfl
    omega
  have hlo9 : 8 + (maxL + 11) + (RM d' (gX G' - gX G) (gS G' - gS G)).locals ≤ R.locals := by
    have : (RM d' (gX G' - gX G) (gS G' - gS G)).locals = 260 * d' + 4000 := rfl
    omega
  have hK : vx_Back l R p e below s args y len 8 (PreOf R (gX G' - gX G) (gS G' - gS G) (zPc as G)) (PostOf (zQc o G') (gX G' - gX G) (gS G' - gS G) (Abv G)) (vx_Post (zXC o G') (gX G' - gX G) (gS G' - gS G) (Abv G)) := by
    rcases hc with hc | ⟨hh, hc⟩
    · exact z_back hmet zPc_blind hrc9 hrs9 hfr9 hlo9 hws hc
    · exact z_backW hmet zPc_blind hrc9 hrs9 hfr9 hlo9 hws hc
  intro T hTh X
  obtain ⟨mk, vm₁, ig, hnamed, X₁, hW₁, hdec, hstep⟩ := hI lsA H h1 h2 T locs _ _ hTh X
  have a1 : gX G' - x0 = gX G - x0 + (gX G' - gX G) := by omega
  have a2 : gS G' - s0 = gS G - s0 + (gS G' - gS G) := by omega
  have hpre : PreOf R (gX G' - gX G) (gS G' - gS G) (zPc as G) ⟨T.setVm vm₁, locs, gX G - x0, gS G - s0⟩ as.toArray := by
    refine ⟨by dsimp only [Pt.cells]; omega, by dsimp only [Pt.slots]; omega, rfl, ?_, strK.warm hW₁ (fun q _ => vk_R.warm hW₁) h3, TK.warm hW₁ htk⟩
    have : (T.setVm vm₁).heap = H := hTh
    dsimp only [Pt.U]
    rw [this]
    exact h2.moved hW₁.alike
  rcases hK m meth c ⟨T.setVm vm₁, locs, gX G - x0, gS G - s0⟩ { F0 m pc lsA st with stack := st' } ig mk as.toArray X₁ rfl h1.sz hdec (by show 2 * 0 + (st'.map fun v => v.category).sum ≤ 8; rw [Nat.mul_zero, Nat.zero_add]; exact hrest) (X₁.named hnamed) hpre with ⟨v, ⟨U', l2, c2, s2⟩, X', ⟨g', mk', t, L, e1, e2, ⟨v', ho, hv, hHp⟩, q1, hL, q2, q3⟩, hsteps⟩ | ⟨q, ⟨U', l2, c2, s2⟩, X', ⟨g', mk', t, L, E, ce, e1, e2, ⟨ho, hHp, hE, htx, hbq⟩, hce, hcv, hcls, q1, hL, q2, q3⟩, hsteps⟩
  · dsimp only [Pt.U, Pt.locs, Pt.cells, Pt.slots] at X' e1 e2 q1 q2 q3 hsteps
    subst q1; subst q2; subst q3
    cases hv
    subst ho
    have hp' : HpA s U'.heap G' := by
      rw [e1]
      refine hHp.moved ?_
      rw [← e2]
      exact X'.warmed.alike.symm
    have w := hk lsA U'.heap (locs ++ L) h1 hp' (h3.gk gK1) (fun z hz => by
      rw [gB_gK gK1]
      rcases List.mem_append.mp hz with y1 | y1
      · exact h4 z y1
      · exact hL z y1) (Nat.le_trans h5 gX1) (Nat.le_trans h6 gS1)
    rw [a1, a2] at w
    obtain ⟨tt, b1, b2⟩ := w U' rfl X'
    exact ⟨tt, hstep _ (hsteps.trans b1), b2⟩
  · dsimp only [Pt.U, Pt.locs, Pt.cells, Pt.slots] at X' e1 e2 q1 q2 q3 hsteps
    subst q1; subst q2; subst q3
    subst ho
    have hp' : HpA s U'.heap G' := by
      rw [e1]
      refine hHp.moved ?_
      rw [← e2]
      exact X'.warmed.alike.symm
    have w := hEx hk htx hbq h1 hp' (h3.gk gK1) (fun z (hz : z ∈ locs ++ L) => by
      rw [gB_gK gK1]
      rcases List.mem_append.mp hz with y1 | y1
      · exact h4 z y1
      · exact hL z y1) (Nat.le_trans h5 gX1) (Nat.le_trans h6 gS1)
    rw [a1, a2] at w
    obtain ⟨tt, b1, b2⟩ := w U' rfl X'
    exact ⟨tt, hstep _ (hsteps.trans b1), b2⟩
/-- a call, by its way in -/
theorem k_call {yr : Nat → Option FieldType} {yi len pc' : Nat} {hd : Nat → Option Nat} {tb : List ExceptionTableEntry} {as st' : List Value} (yn : Nat → MethodName) (hyn : yn yi = y) (hts : ∀ w ∈ lw_all, w.before args s = true) (htk : TK s) (hc : CodeL y bytes maxL ret) (hmax : maxL ≤ 111) (hRf : 2 * d + 20 ≤ R.frames) (hRl : 260 * d + 4000 ≤ R.locals) (hrest : (st'.map fun v => v.category).sum ≤ 8)
    (hown : s.vm.findClass own = some m.cls) (htb : c.exceptionTable.toList = tb) (hT : TB s args own tb pc hd) (hlk : meth.locks = false) (hpc : pc + len = pc')
    (hI : ∀ (lsA : Array Slot) (H : Heap), LsOK lsA c.maxLocals ls → HpA s H G → Into p l e R s m args below meth c H y as len (F0 m pc lsA st) st') :
    CmdK p l e R s m args below meth c Q x0 s0 (fun d' y' as G o G' => zMet l (yn y') lw_all d' as G o G' ∧ TyO (yr y') o) hd d G pc ls st (cC yi as pc' st') :=
  k_callR yn hyn hts htk hc hmax (fun d' h => by omega) (fun d' h => by omega) hrest (fun hE ht hb h1 h2 h3 h4 h5 h6 => exc_go hown htb hT hlk hE ht hb h1 h2 h3 h4 h5 h6) hpc hI
theorem k_throw {met : Nat → Nat → List Value → Hp → Out → Hp → Prop} {hd : Nat → Option Nat} {tb : List ExceptionTableEntry} (hown : s.vm.findClass own = some m.cls) (htb : c.exceptionTable.toList = tb) (hT : TB s args own tb pc hd) (hlk : meth.locks = false) (hx : p.tables.exec = Jvm.exec) (hb : c.code = cc) (hg : decode cc pc = .ok (.athrow, 1)) :
    CmdK p l e R s m args below meth c Q x0 s0 met hd d G pc ls st (pThrow ls st G) := by
  unfold pThrow
  split
  · rename_i a st9
    refine k_if (fun h0 => ?_) (fun _ => k_no)
    simp only [Bool.and_eq_true, decide_eq_true_eq] at h0
    intro g1 g2 g3 hE lsA H locs h1 h2 h3 h4 h5 h6
    exact vx_athrow hx hb hg (exc_go hown htb hT hlk hE h0.1 h0.2 h1 h2 h3 h4 h5 h6)
  · exact k_no
end KCA

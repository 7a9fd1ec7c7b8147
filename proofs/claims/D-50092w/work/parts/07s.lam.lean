/-! LAMBDAS: what the made classes are. Tags 27–30: Bus.lambda$new$0..3 (0, 1: nothing captured), 31: lambda$middle$0, 32: lambda$bestBallot$1 -/
def lmW (t : Nat) : Cond := match t with
  | 27 => siteWord_1_1 | 28 => siteWord_1_2 | 29 => siteWord_1_3 | 30 => siteWord_1_4 | 31 => siteWord_1_5 | _ => siteWord_1_6
def lm4 (t : Nat) : MethodName × Nat × Nat × Lambda.Shape := match lmW t with
  | .lambdaSite x pc ix σ => (x, pc, ix, σ)
  | _ => (⟨"", "", ""⟩, 0, 0, default)
def lmO (t : Nat) : String := if t ≤ 30 then "BallotBus$Bus" else "BallotBus"
def tlm (t : Nat) : Bool := decide (27 ≤ t) && decide (t ≤ 32)
/-- what is captured -/
def lmTys (t : Nat) : List FieldType := if t ≤ 28 then [] else if t ≤ 30 then [.object "BallotBus$Bus"] else if t = 31 then [.object "BallotBus"] else [.object "BallotBus", .int]
def lmTy (t k : Nat) : FieldType := (lmTys t).getD k .int
def lmL (t : Nat) : Nat := (lmTys t).length
/-- the made method's bytes, the method that it calls, the pool's entries -/
def lmB (t : Nat) : ByteArray := if t ≤ 28 then .mk #[43, 184, 0, 17, 172] else if t ≤ 30 then .mk #[42, 180, 0, 15, 43, 182, 0, 22, 172] else if t = 31 then .mk #[42, 180, 0, 15, 43, 182, 0, 22, 177] else .mk #[42, 180, 0, 17, 42, 180, 0, 19, 43, 182, 0, 27, 177]
def lmY (t : Nat) : MethodName := if t = 27 then ⟨"BallotBus$Bus", "lambda$new$0", "(LBallotBus$Request;)I"⟩ else if t = 28 then ⟨"BallotBus$Bus", "lambda$new$1", "(LBallotBus$Request;)I"⟩ else if t = 29 then ⟨"BallotBus$Bus", "lambda$new$2", "(LBallotBus$Request;)I"⟩ else if t = 30 then ⟨"BallotBus$Bus", "lambda$new$3", "(LBallotBus$Request;)I"⟩ else if t = 31 then ⟨"BallotBus", "lambda$middle$0", "([I)V"⟩ else ⟨"BallotBus", "lambda$bestBallot$1", "(I[I)V"⟩
/-- the pool's entry of the method; of its class; of the fields -/
def lmI (t : Nat) : Nat := if t ≤ 28 then 17 else if t ≤ 31 then 22 else 27
def lmC (t : Nat) : Nat := if t ≤ 28 then 14 else if t ≤ 31 then 19 else 23
def lmF (t k : Nat) : Nat := if t ≤ 31 then 15 else 17 + 2 * k
def lmRet (t : Nat) : Option FieldType := if t ≤ 30 then some .int else none
def lmNm (t : Nat) : String := if t ≤ 30 then "of" else "with"
def lmDs (t : Nat) : String := if t ≤ 30 then "(LBallotBus$Request;)I" else "([I)V"
def lmIf (t : Nat) : String := if t ≤ 30 then "BallotBus$Measure" else "BallotBus$Trial"
/-- what is asked of the file -/
def lmOKf (t : Nat) (cf : ClassFile) : Bool :=
  (match layoutFields cf 0 with
    | some lay => decide (lay.2.1 = (lmTys t).toArray) && (List.range (lmL t)).all (fun k => (lay.1[k]?).any (fun f => decide (f.slot = k) && decide (f.isStatic = false) && decide (lay.1.findIdx? (·.name == f.name) = some k) &&
        (match cf.constantPool[lmF t k]? with
          | some (.fieldref _ nt) => decide ((cf.constantPool.nameAndType? nt).map (·.1) = some f.name)
          | _ => false)))
    | none => false) &&
  (match layoutMethods cf with
    | some ms => (ms[1]?).any (fun a => decide (a.name = lmNm t) && decide (a.desc = lmDs t) && decide (a.accessFlags = 1) && decide (a.sig.returnType = lmRet t) && decide (a.sig.parameters.length = 1) && (a.code).any (fun x => decide (x.maxLocals = 2) && decide (x.code = lmB t)))
    | none => false) &&
  (match cf.constantPool[lmI t]? with
    | some (.methodref ci nt) => decide (ci = lmC t) && decide (cf.constantPool.className? ci = some (lmY t).cls) && decide (cf.constantPool.nameAndType? nt = some ((lmY t).name, (lmY t).desc)) && decide (ci ≠ cf.thisClass)
    | _ => false) &&
  (match cf.constantPool[lmC t]? with
    | some (.class_ n) => decide (cf.constantPool.string? n = some (lmY t).cls)
    | _ => false)
def lmShape (t : Nat) : Bool := let σ := (lm4 t).2.2.2
  decide (σ.iface = lmIf t) && decide (σ.name = lmNm t) && decide (σ.sam.toString = lmDs t) && decide (σ.implClass = (lmY t).cls) && decide (σ.implName = (lmY t).name) && decide (σ.implDesc.toString = (lmY t).desc) && decide (σ.implItf = false) && decide (σ.captured = lmTys t)
theorem lm_all {t : Nat} (h : tlm t = true) : t = 27 ∨ t = 28 ∨ t = 29 ∨ t = 30 ∨ t = 31 ∨ t = 32 := by
  simp only [tlm, Bool.and_eq_true, decide_eq_true_eq] at h
  omega
theorem lm_file {t : Nat} (h : tlm t = true) : ((lm4 t).2.2.2.file (lmO t)).any (lmOKf t) = true := by
  rcases lm_all h with rfl | rfl | rfl | rfl | rfl | rfl <;> decide +kernel
theorem lm_shape {t : Nat} (h : tlm t = true) : lmShape t = true := by
  rcases lm_all h with rfl | rfl | rfl | rfl | rfl | rfl <;> decide +kernel
/-- a class that the rule has made for the site of tag t -/
def lamF (s : State) (t : Nat) (c : ClassId) : Prop := ∃ d dk, s.vm.findClass (lmO t) = some d ∧ s.vm.classes[d]? = some dk ∧ dk.name = lmO t ∧ Lambda.isMade { classPath := fun _ => none } s.vm d (lm4 t).2.2.2 c = true ∧ s.lambdaCallable (lm4 t).2.2.2 c = true
theorem lamF.warm {s U : State} {t : Nat} {c : ClassId} (hW : s.WarmedH U.vm) (h : lamF s t c) : lamF U t c := by
  obtain ⟨d, dk, h1, h2, h3, h4, h5⟩ := h
  obtain ⟨dk', h2', e2⟩ := hW.alike.2.2 _ _ h2
  refine ⟨d, dk', by rw [hW.alike.findClass]; exact h1, h2', by rw [e2]; exact h3, Lambda.isMade_warmer hW h4, ?_⟩
  have hA := hW.alike
  simp only [State.lambdaCallable, hA.findClass, hA.assignable, hA.superclasses, hA.declaredIn] at h5 ⊢
  exact h5
theorem lamF.same {s U : State} {t : Nat} {c : ClassId} (e : s.vm = U.vm) (h : lamF s t c) : lamF U t c := by
  obtain ⟨d, dk, h1, h2, h3, h4, h5⟩ := h
  unfold lamF State.lambdaCallable at *
  rw [← e]
  exact ⟨d, dk, h1, h2, h3, h4, h5⟩
/-- all that is asked of a made class -/
theorem lamF.spec {s : State} {t : Nat} {c : ClassId} (ht : tlm t = true) (h : lamF s t c) (h0 : (Cond.instantiable "java/lang/Object" 0).before #[] s = true) :
    ∃ (k tk : Class) (meth : Method) (cd : Code) (cf file : ClassFile) (target r0 : MethodId) (iface tc : ClassId),
      s.vm.classes[c]? = some k ∧ k.kind = .ordinary ∧ k.name = lmO t ++ "$$Lambda" ∧ k.instanceTypes = (lmTys t).toArray ∧ k.cf = some file ∧
      s.vm.method? ⟨c, 1⟩ = some meth ∧ meth.accessFlags = 1 ∧ meth.name = lmNm t ∧ meth.desc = lmDs t ∧ meth.sig.returnType = lmRet t ∧ meth.sig.parameters.length = 1 ∧ meth.code = some cd ∧ cd.code = lmB t ∧ cd.maxLocals = 2 ∧ cd.exceptionTable = #[] ∧
      s.vm.findClass (lmY t).cls = some tc ∧ s.vm.classes[tc]? = some tk ∧ tk.isInterface = false ∧ s.methodFound? (lmY t).cls (lmY t).name (lmY t).desc = some target ∧
      s.vm.methodReady c (lmI t) target ∧ (∃ n, file.constantPool[lmI t]? = some (.methodref (lmC t) n) ∧ file.constantPool.nameAndType? n = some ((lmY t).name, (lmY t).desc)) ∧ s.vm.classReady c (lmC t) tc ∧
      (∀ j, j < lmL t → ∃ fd, s.vm.fieldReady c (lmF t j) c fd ∧ fd.slot = j ∧ fd.isStatic = false) ∧
      s.vm.findClass (lmIf t) = some iface ∧ ((methodIn iface (lmNm t) (lmDs t) true none).ask { classPath := fun _ => none } s.vm).1 = .ok r0 ∧ s.vm.assignable c iface = true ∧ selectMethod ({} : Platform) s.vm c r0 = .method ⟨c, 1⟩ ∧ ((c :: s.vm.superclasses c).any fun k => (declaredIn s.vm (lmNm t) (lmDs t) k).any fun (_, x) => x.isPrivate || x.isStatic) = false := by
  obtain ⟨d, dk, hd, hdk, hdn, hm, hca⟩ := h
  have hsh := lm_shape ht
  have hfl := lm_file ht
  simp only [lmShape, Bool.and_eq_true, decide_eq_true_eq] at hsh
  obtain ⟨⟨⟨⟨⟨⟨⟨s1, s2⟩, s3⟩, s4⟩, s5⟩, s6⟩, s7⟩, s8⟩ := hsh
  obtain ⟨dk9, k, ok, tk, file, cf, object, iface, tc, lay, methods, target, found, m1, m2, m3, m4, m5, m6, m7, m8, m9, m10, m11, m12, m13, ⟨m14, m15, m16, m17, m18, m19⟩, m20, m21, m22, m23, ⟨m24, m25, m26⟩, m27, m28, ⟨m29, m30⟩, m31, m32⟩ := Lambda.isMade_spec hm
  cases m1.symm.trans hdk
  rw [hdn] at m4 m14
  rw [m4] at hfl
  rw [Option.any_some] at hfl
  obtain ⟨oc, ok9, ho1, ho2, -, -, -, ho3⟩ := Cond.instantiable_spec h0
  cases m5.symm.trans ho1
  cases m7.symm.trans ho2
  rw [ho3] at m8
  unfold lmOKf at hfl
  rw [m8, m9] at hfl
  dsimp only at hfl
  rw [Bool.and_eq_true, Bool.and_eq_true, Bool.and_eq_true, Bool.and_eq_true] at hfl
  obtain ⟨⟨⟨⟨f1, f2⟩, f3⟩, f4⟩, f5⟩ := hfl
  rw [Option.any_eq_true] at f3
  obtain ⟨a, ha, f3⟩ := f3
  simp only [Bool.and_eq_true, decide_eq_true_eq, Option.any_eq_true] at f3
  obtain ⟨⟨⟨⟨⟨a1, a2⟩, a3⟩, a4⟩, a5⟩, x9, hx9, a6, a7⟩ := f3
  obtain ⟨b, hb, hsm⟩ := m27 1 a ha
  obtain ⟨b1, b2, b3, b4, x, y, hx, hy, b5, b6, b7, b8⟩ := Lambda.sameMethod_spec hsm
  cases hx9.symm.trans hx
  have hmeth : s.vm.method? ⟨c, 1⟩ = some b := by
    simp only [Vm.method?, m2, Option.bind_eq_bind, Option.bind_some]
    exact hb
  -- the method's entry
  cases hp : cf.constantPool[lmI t]? with
  | none => rw [hp] at f4; cases f4
  | some pe =>
    rw [hp] at f4
    cases pe with
    | methodref ci nt =>
      simp only [Bool.and_eq_true, decide_eq_true_eq] at f4
      obtain ⟨⟨⟨p1, p2⟩, p3⟩, p4⟩ := f4
      cases hq : cf.constantPool[lmC t]? with
      | none => rw [hq] at f5; cases f5
      | some qe =>
        rw [hq] at f5
        cases qe with
        | class_ n =>
          simp only [decide_eq_true_eq] at f5
          have hcr := Lambda.resolvedOf_class (e := { classPath := fun _ => none }) (vm := s.vm) (cf := cf) (fields := lay.1) (self := c) hq (by rw [← p1]; exact p4) f5 (x := tc) (by rw [← s4]; exact m10)
          have hmr := Lambda.resolvedOf_method (e := { classPath := fun _ => none }) (vm := s.vm) (cf := cf) (fields := lay.1) (self := c) hp p2 (by rw [← s4]; exact m10) m11 p3 (m := target) (by rw [s5, s6] at m12; exact m12)
          have k1 := m31 _ _ hcr
          have k2 := m31 _ _ hmr
          refine ⟨k, tk, b, y, cf, file, target, found, iface, tc, m2, m15, m14, ?_, m3, hmeth, b4.trans a3, b1.trans a1, b2.trans a2, by rw [b3]; exact a4, by rw [b3]; exact a5, hy, by rw [b7]; exact a7, by rw [b6]; exact a6, b8, by rw [← s4]; exact m10, m11, by rw [m23]; exact s7, ?_, ⟨k, m2, k2⟩, ?_, ⟨k, m2, k1⟩, ?_, by rw [← s1]; exact m6, by rw [← s2, ← s3]; exact m13, ?_, m32, ?_⟩
          · rw [m29, of_decide_eq_true f1]
            have : ok.instanceTypes = #[] := Array.eq_empty_of_size_eq_zero ho3
            rw [this]; simp
          · unfold State.methodFound?
            rw [← s4, m10]
            simp only [Option.bind_eq_bind, Option.bind_some, m11]
            rw [← s5, ← s6, m12]
            rfl
          · exact ⟨nt, by rw [m25, hp, p1], by rw [m25]; exact p3⟩
          · intro j hj
            have fj := List.all_eq_true.mp f2 j (List.mem_range.mpr hj)
            rw [Option.any_eq_true] at fj
            obtain ⟨fd, hfd, fj⟩ := fj
            simp only [Bool.and_eq_true, decide_eq_true_eq] at fj
            obtain ⟨⟨⟨g1, g2⟩, g3⟩, g4⟩ := fj
            cases hfr : cf.constantPool[lmF t j]? with
            | none => rw [hfr] at g4; cases g4
            | some fe =>
              rw [hfr] at g4
              cases fe with
              | fieldref zc nt2 =>
                simp only [decide_eq_true_eq, Option.map_eq_some_iff] at g4
                obtain ⟨⟨nm, ds⟩, g5, g6⟩ := g4
                dsimp only at g6
                subst g6
                have hf9 := Lambda.resolvedOf_field (e := { classPath := fun _ => none }) (vm := s.vm) (cf := cf) (fields := lay.1) (self := c) hfr g5 g3
                exact ⟨fd, ⟨k, j, k, m2, m31 _ _ hf9, m2, m28 _ _ hfd⟩, g1, g2⟩
              | _ => cases g4
          · obtain ⟨i2, hi2, hasg, -⟩ := State.lambdaCallable_spec hca
            cases m6.symm.trans hi2
            exact hasg
          · obtain ⟨i2, hi2, -, hway⟩ := State.lambdaCallable_spec hca
            rw [s2, s3] at hway
            exact hway
        | _ => cases f5
    | _ => cases f4
theorem shape_site {cf : ClassFile} {index : Nat} {σ : Lambda.Shape} (h : Lambda.shapeOf? cf index = some σ) : ∃ bsm nt name desc site, cf.constantPool[index]? = some (.invokeDynamic bsm nt) ∧ cf.constantPool.nameAndType? nt = some (name, desc) ∧ parseMethodDescriptor desc = some site ∧ site.parameters = σ.captured := by
  unfold Lambda.shapeOf? at h
  cases hp : cf.constantPool[index]? with
  | none => rw [hp] at h; cases h
  | some pe =>
    rw [hp] at h
    cases pe with
    | invokeDynamic b nt =>
      obtain ⟨entries, h1, h⟩ := Option.bind_eq_some_iff.mp h
      obtain ⟨bm, h2, h⟩ := Option.bind_eq_some_iff.mp h
      cases hq : cf.constantPool[bm.bootstrapMethodRef]? with
      | none => rw [hq] at h; cases h
      | some qe =>
        rw [hq] at h
        cases qe with
        | methodHandle z r =>
          by_cases hz : z = 6
          · subst hz
            obtain ⟨u1, h3, h⟩ := Option.bind_eq_some_iff.mp h
            generalize bm.bootstrapArguments = ba at h
            rcases ba with ⟨l⟩
            rcases l with _ | ⟨a0, _ | ⟨a1, _ | ⟨a2, _ | ⟨a3, l⟩⟩⟩⟩
            · cases h
            · cases h
            · cases h
            · conv at h => lhs; whnf
              have g0 : ∀ p q, (⟨[a0, a1, a2]⟩ : Array Nat).getLit (n := 3) 0 p q = a0 := fun _ _ => rfl
              have g1 : ∀ p q, (⟨[a0, a1, a2]⟩ : Array Nat).getLit (n := 3) 1 p q = a1 := fun _ _ => rfl
              have g2 : ∀ p q, (⟨[a0, a1, a2]⟩ : Array Nat).getLit (n := 3) 2 p q = a2 := fun _ _ => rfl
              rw [g0, g1, g2] at h
              cases e0 : cf.constantPool[a0]? with
              | none => dsimp only at h; rw [e0] at h; cases h
              | some x0 =>
                dsimp only at h
                rw [e0] at h
                cases x0 with
                | methodType d0 =>
                  cases e1 : cf.constantPool[a1]? with
                  | none => dsimp only at h; rw [e1] at h; cases h
                  | some x1 =>
                    dsimp only at h
                    rw [e1] at h
                    cases x1 with
                    | methodHandle kind r1 =>
                      cases e2 : cf.constantPool[a2]? with
                      | none => dsimp only at h; rw [e2] at h; cases h
                      | some x2 =>
                        dsimp only at h
                        rw [e2] at h
                        cases x2 with
                        | methodType d2 =>
                          dsimp only at h
                          obtain ⟨⟨name, desc⟩, h4, h⟩ := Option.bind_eq_some_iff.mp h
                          obtain ⟨site, h5, h⟩ := Option.bind_eq_some_iff.mp h
                          cases hr : site.returnType with
                          | none => rw [hr] at h; cases h
                          | some rt =>
                            rw [hr] at h
                            cases rt with
                            | object iface =>
                              obtain ⟨⟨y1, y2, y3, y4⟩, h6, h⟩ := Option.bind_eq_some_iff.mp h
                              obtain ⟨q2, h7, h⟩ := Option.bind_eq_some_iff.mp h
                              obtain ⟨q3, h8, h⟩ := Option.bind_eq_some_iff.mp h
                              obtain ⟨q4, h9, h⟩ := Option.bind_eq_some_iff.mp h
                              obtain ⟨q5, h10, h⟩ := Option.bind_eq_some_iff.mp h
                              obtain ⟨q6, h11, h⟩ := Option.bind_eq_some_iff.mp h
                              cases h
                              exact ⟨b, nt, name, desc, site, rfl, h4, h5, rfl⟩
                            | _ => cases h
                        | _ => cases h
                    | _ => cases h
                | _ => cases h
            · cases h
          · exfalso
            revert h
            rcases z with _ | _ | _ | _ | _ | _ | _ | z <;> first | (intro h; cases h; done) | exact absurd rfl hz
        | _ => cases h
    | _ => cases h

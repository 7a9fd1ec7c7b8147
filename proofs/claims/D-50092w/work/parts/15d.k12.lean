/-! an array's class, a class, an Integer of the cache, a private method -/
section KJD
variable {p : Program} {l : Launch} {e : Env} {R : Room} {s : State} {m : MethodId} {args : Array Value} {below : List Frame} {meth : Method} {c : Code} {Q : State → Prop} {x0 s0 : Nat}
variable {met : Nat → Nat → List Value → Hp → Out → Hp → Prop} {hd : Nat → Option Nat} {d : Nat} {G : Hp} {pc : Nat} {ls st : List Value} {cc : ByteArray}
theorem k_getC {t : Nat} {q : Nat × String} {own : String} {index : Nat} (hq : q ∈ sMir) (ht : tar t = true) (hC : q.2 = "[" ++ (aTy t).toString) (hown : s.vm.findClass own = some m.cls) (hlink : (Cond.methodLink own index ⟨"java/lang/Object", "getClass", "()Ljava/lang/Class;"⟩).before args s = true) (hsame : (Cond.sameMethod "java/lang/Object" "java/lang/Object" "getClass" "()Ljava/lang/Class;").before args s = true)
    (hnat : (Cond.native ⟨"java/lang/Object", "getClass", "()Ljava/lang/Class;"⟩).before args s = true) (hinst : (Cond.instanceMethod ⟨"java/lang/Object", "getClass", "()Ljava/lang/Class;"⟩).before args s = true) (hsel : (Cond.selects q.2 ⟨"java/lang/Object", "getClass", "()Ljava/lang/Class;"⟩ ⟨"java/lang/Object", "getClass", "()Ljava/lang/Class;"⟩).before args s = true)
    (hx : p.tables.exec = Jvm.exec) (hb : c.code = cc) (hg : decode cc pc = .ok (.invokevirtual index, 3)) (hRf : 2 * d + 20 ≤ R.frames) (hRl : 260 * d + 4000 ≤ R.locals) :
    CmdK p l e R s m args below meth c Q x0 s0 met hd d G pc ls st (pGetC t q.1 (pc + 3) ls st G) := by
  unfold pGetC
  split
  · rename_i a rest
    refine k_if (fun h0 => ?_) (fun _ => k_no)
    simp only [Bool.and_eq_true, decide_eq_true_eq, beq_iff_eq] at h0
    obtain ⟨h1, h2⟩ := h0
    intro g1 g2 g3 kk lsA H locs e1 e2 e3 e4 e5 e6 T hT X
    obtain ⟨cell, k, comp, a1, a2, a3, a4, a5, a6, a7, a8, a9, a10⟩ := e2.arr (a := a) (by rw [h1]; exact ht)
    rw [h1, ← hC] at a7
    obtain ⟨c0, k0, m1, m2, m3⟩ := e3.1.2 q hq
    have hcat := cat_sum rest
    obtain ⟨vm', X', st9⟩ := X.getClass hx hown hlink hsame hnat hinst hsel (a := a) (mir := gA G q.1) (by rw [hT]; exact a1) (fun z h => by rw [h] at a2; cases a2) a7 (by simp [Term.eval, m1, m2, m3]) (g := F0 m pc lsA (.ref a :: rest)) rfl e1.sz rfl (by rw [hb]; exact hg) (by omega) (by show 2 * 0 + (rest.map fun v => v.category).sum + 14 ≤ R.locals; omega)
    obtain ⟨tt, b1, b2⟩ := kk lsA H locs e1 e2 e3 e4 e5 e6 (T.setVm vm') hT X'
    exact ⟨tt, st9 tt b1, b2⟩
  · exact k_no
theorem k_ldcM {q : Nat × String} {own : String} {index : Nat} (hq : q ∈ sMir) (hown : s.vm.findClass own = some m.cls) (hlink : (Cond.classLink own index q.2).before args s = true) (hx : p.tables.exec = Jvm.exec) (hb : c.code = cc) (hg : decode cc pc = .ok (.ldc index, 2)) :
    CmdK p l e R s m args below meth c Q x0 s0 met hd d G pc ls st (pSt q.1 (pc + 2) ls st G) := by
  intro g1 g2 g3 kk lsA H locs e1 e2 e3 e4 e5 e6
  exact va_ldcM hx hb hown hlink (e3.1.2 q hq) hg (kk lsA H locs e1 e2 e3 e4 e5 e6)
theorem k_cacheLd (hx : p.tables.exec = Jvm.exec) (hb : c.code = cc) (hg : decode cc pc = .ok (.aaload, 1)) : CmdK p l e R s m args below meth c Q x0 s0 met hd d G pc ls st (pCacheLd jcI (pc + 1) ls st G) := by
  unfold pCacheLd
  split
  · rename_i x a rest
    refine k_if (fun h0 => ?_) (fun _ => k_no)
    simp only [Bool.and_eq_true, beq_iff_eq] at h0
    obtain ⟨h1, h2⟩ := h0
    intro g1 g2 g3 kk lsA H locs e1 e2 e3 e4 e5 e6
    obtain ⟨-, cell, k, comp, q1, q2, q3, q4, q5, q6, q7⟩ := e2.2.2.2.2.2.2.2.2.2
    have hin := inb_iff.mp h2
    have hlt : x.toNatClampNeg < 256 := Nat.not_le.mp fun z => hin (Or.inr z)
    rw [← h1] at q1
    exact W.aald hx hb q1 (ty := .object "java/lang/Integer") ⟨fun z e9 => (by rw [e9] at q2; cases q2), k, q4, comp, q5⟩ rfl q3 (by rw [q6]; exact hin) (q7 _ hlt) rfl rfl hg (kk lsA H locs e1 e2 e3 e4 e5 e6)
  · exact k_no
end KJD
theorem into_P {p : Program} {l : Launch} {e : Env} {R : Room} {s : State} {m : MethodId} {args : Array Value} {below : List Frame} {meth : Method} {c : Code} {pc : Nat} {cc : ByteArray} {H : Heap} {lsA : Array Slot} {rest As : List Value} {y : MethodName} {bytes : ByteArray} {maxL index : Nat} {ret : Option FieldType} {own C C2 : String} {x2 y2 : MethodName} {b : Nat} (hts : ∀ w ∈ lw_all, w.before args s = true) (hc : CodeL y bytes maxL ret) (hown : s.vm.findClass own = some m.cls) (hx : p.tables.exec = Jvm.exec) (hb : c.code = cc) (hl : Cond.methodLink own index y ∈ lw_all) (hin : Cond.instanceMethod y ∈ lw_all) (hpr : va_Nw (.privateMethod y) s) (hse : Cond.selects C2 x2 y2 ∈ lw_all) (hcl : y2.cls = y.cls) (hy : npoly y.cls) (har : arity y As.length)
    (hr : ∃ cell : Cell, H[b]? = some cell ∧ cell.vm.isStatics = false ∧ s.vm.findClass C = some cell.cls) (hg : decode cc pc = .ok (.invokevirtual index, 3)) : Into p l e R s m args below meth c H y (.ref b :: As) 3 (F0 m pc lsA (As.reverse ++ .ref b :: rest)) rest := by
  intro T locs cells slots hT X
  obtain ⟨cellB, hcB, hobj, hcls⟩ := hr
  obtain ⟨mk, methM, hnamed, hmethM, hstM, habM⟩ := Cond.instanceMethod_spec (hts _ hin)
  obtain ⟨mk', methM', hnamed', hmethM', -, hsigM⟩ := codeL_spec hts hc
  cases hnamed.symm.trans hnamed'
  cases hmethM.symm.trans hmethM'
  obtain ⟨c2, r2, m2, q1, q2, q3, q4, kP, hkP, hkPi⟩ := Cond.selects_spec (hts _ hse)
  have hcc : m2.cls = mk.cls := by
    have h1 := findClass_of_methodNamed q3
    have h2 := findClass_of_methodNamed hnamed
    rw [hcl] at h1
    exact Option.some.inj (h1.symm.trans h2)
  rw [hcc] at hkP
  have hpriv : methM.isPrivate = true := Cond.privateMethod_at hpr mk methM hnamed hmethM
  have hselP : selectMethod e.platform s.vm cellB.cls mk = .method mk := selectMethod_private hmethM hpriv
  obtain ⟨vm₁, X₁, hstep₁⟩ := X.invokevirtual hx hown (hts _ hl) hnamed hmethM hstM hkP hkPi hy (a := b) (cell := cellB) (by rw [hT]; exact hcB)
    (fun z h => by rw [h] at hobj; cases hobj) hselP hmethM habM hkP hkPi (g := F0 m pc lsA (As.reverse ++ .ref b :: rest)) rfl (argsL := As) (rest := rest) (arity_len har _ hsigM) rfl (by rw [hb]; exact hg)
  exact ⟨mk, vm₁, _, hnamed, X₁, X₁.warmed, by rw [hb]; exact hg, fun target h => hstep₁ _ fun acts => by rw [doInvoke_state]; exact h⟩

/-! LAMBDAS: the calls -/
theorem Steps.weak {tb : Tables} {e : Env} {below : List Frame} {f : Frame} {a b : State} (h : Steps tb e (f :: below) a b) : Steps tb e below a b := by
  obtain ⟨n, h1, h2⟩ := h
  exact ⟨n, h1, fun k hk => (show Within _ ([f] ++ below) from h2 k hk).weaken⟩
section KLC
/-- behind a call that has come to its end -/
theorem z_cont {l : Launch} {R : Room} {p : Program} {e : Env} {below : List Frame} {s : State} {sargs : Array Value} {len : Nat} {m : MethodId} {meth : Method} {c : Code} {U : State} {Ls : List Loc} {c0 s0 : Nat} {g : JFrame} {ig : Instr} {mk : MethodId} {a : Array Value} {Qc : Array Value → State → Outcome → State → Prop} {XC : String → Addr → State → State → Prop} {mc ms : Nat} {free : Addr → Prop} {o : Outcome} {s₂ : State}
    (X : Stand p l e R s m sargs below meth c U Ls c0 s0) (hg : g.method = m) (hdg : decode c.code g.pc = .ok (ig, len)) (hsteps : Steps p.tables e below (doInvoke e (U.setTop g) [] mk a).1 s₂) (hend : Ended s₂ (.java g :: U.frames.tail) o) (hq' : vx_Q Qc XC mc ms free a (U.calling g mk a) o s₂) :
    (∃ (v : Option Value) (B : Pt), Stand p l e R s m sargs below meth c B.U B.locs B.cells B.slots ∧ PostOf Qc mc ms free ⟨U, Ls, c0, s0⟩ a v B ∧
      Steps p.tables e below (doInvoke e (U.setTop g) [] mk a).1 (B.U.setTop { g with pc := g.pc + len, stack := v.toList ++ g.stack })) ∨
    (∃ (q : Addr) (B : Pt), Stand p l e R s m sargs below meth c B.U B.locs B.cells B.slots ∧ vx_Post XC mc ms free ⟨U, Ls, c0, s0⟩ a q B ∧
      Steps p.tables e below (doInvoke e (U.setTop g) [] mk a).1 ((B.U.setTop g).pushFrame (.throwing q))) := by
  have h : At U g.method c below := by rw [hg]; exact X.here
  obtain ⟨g₀, hg0⟩ := Option.isSome_iff_exists.mp h.top
  obtain ⟨r, hr⟩ := State.topJava?_eq_some.mp hg0
  have hr' : (({ U with heap := s₂.heap, slotsUsed := s₂.slotsUsed } : State).setVm s₂.vm).frames = .java g₀ :: r := hr
  rcases hq' with ⟨hqc, L, hfe, hL⟩ | ⟨q, rfl, E, ce, L, hx, hce, hcv, hcl, hW₂, hsm, hL⟩
  · obtain ⟨⟨v, rfl⟩, hW₂, e2, q2, q3, q4, q5, q6⟩ := id hfe
    have e3 : s₂ = ({ (U.calling g mk a).setFrames s₂.frames with heap := s₂.heap, slotsUsed := s₂.slotsUsed } : State).setVm s₂.vm := by
      have : s₂ = ({ s₂ with vm := (U.calling g mk a).vm } : State).setVm s₂.vm := rfl
      rw [e2] at this
      exact this
    obtain ⟨c₂, i₂, len₂, hc₂, hd₂, hf₂⟩ := hend
    have hW' : U.WarmedH s₂.vm := hW₂
    have hcc : c₂ = c := by
      have h1 : s₂.code? g.method = U.code? g.method := by
        rw [State.code?_eq, State.code?_eq, hW'.alike.method?]
      exact Option.some.inj (hc₂.symm.trans (h1.trans h.code))
    subst hcc
    have hlen : len₂ = len := by rw [hdg] at hd₂; cases hd₂; rfl
    subst hlen
    have hs₂ : s₂ = (({ U with heap := s₂.heap, slotsUsed := s₂.slotsUsed } : State).setVm s₂.vm).setTop { g with pc := g.pc + len₂, stack := v.toList ++ g.stack } := by
      refine e3.trans ?_
      rw [hf₂, State.calling_eq h.top, State.setFrames_setFrames, State.setTop_of_frames _ hr', hr]
      rfl
    have hsame : U.sameButNew ({ U with heap := s₂.heap, slotsUsed := s₂.slotsUsed } : State) L mc ms := by
      refine ⟨?_, q2, q3, q4, q5, q6⟩
      obtain ⟨t, ht, -⟩ := State.frames_cons hr
      show ({ U with heap := s₂.heap, slotsUsed := s₂.slotsUsed } : State) = { U.setFrames U.frames with heap := s₂.heap, slotsUsed := s₂.slotsUsed }
      rw [State.setFrames_self ht]
    subst hg
    refine Or.inl ⟨v, ⟨(({ U with heap := s₂.heap, slotsUsed := s₂.slotsUsed } : State).setVm s₂.vm), Ls ++ L, c0 + mc, s0 + ms⟩,
      ⟨X.admits, X.cas, X.clock, X.frames, X.room, X.hears, X.method, X.code, (X.here.setHeapUsed s₂.heap s₂.slotsUsed).setVm hW'.alike, X.tail, State.WarmedH.trans X.warmed hW', X.limits, X.bytes, X.same.trans (hsame.setVm s.vm)⟩,
      ⟨g, mk, s₂, L, rfl, rfl, hqc, rfl, hL, rfl, rfl⟩, ?_⟩
    show Steps p.tables e below _ ((({ U with heap := s₂.heap, slotsUsed := s₂.slotsUsed } : State).setVm s₂.vm).setTop { g with pc := g.pc + len₂, stack := v.toList ++ g.stack })
    rw [← hs₂]
    exact hsteps
  · obtain ⟨e2, q2, q3, q4, q5, q6⟩ := id hsm
    have e3 : s₂ = ({ (U.calling g mk a).setFrames s₂.frames with heap := s₂.heap, slotsUsed := s₂.slotsUsed } : State).setVm s₂.vm := by
      have : s₂ = ({ s₂ with vm := (U.calling g mk a).vm } : State).setVm s₂.vm := rfl
      rw [e2] at this
      exact this
    have hf₂ : s₂.frames = .throwing q :: .java g :: U.frames.tail := hend
    have hW' : U.WarmedH s₂.vm := hW₂
    have hs₂ : s₂ = ((({ U with heap := s₂.heap, slotsUsed := s₂.slotsUsed } : State).setVm s₂.vm).setTop g).pushFrame (.throwing q) := by
      refine e3.trans ?_
      rw [hf₂, State.calling_eq h.top, State.setFrames_setFrames, State.pushFrame, State.frames_setTop _ hr', State.setTop_of_frames _ hr', State.setFrames_setFrames, hr]
      rfl
    have hsame : U.sameButNew ({ U with heap := s₂.heap, slotsUsed := s₂.slotsUsed } : State) L mc ms := by
      refine ⟨?_, q2, q3, q4, q5, q6⟩
      obtain ⟨t, ht, -⟩ := State.frames_cons hr
      show ({ U with heap := s₂.heap, slotsUsed := s₂.slotsUsed } : State) = { U.setFrames U.frames with heap := s₂.heap, slotsUsed := s₂.slotsUsed }
      rw [State.setFrames_self ht]
    subst hg
    refine Or.inr ⟨q, ⟨(({ U with heap := s₂.heap, slotsUsed := s₂.slotsUsed } : State).setVm s₂.vm), Ls ++ L, c0 + mc, s0 + ms⟩,
      ⟨X.admits, X.cas, X.clock, X.frames, X.room, X.hears, X.method, X.code, (X.here.setHeapUsed s₂.heap s₂.slotsUsed).setVm hW'.alike, X.tail, State.WarmedH.trans X.warmed hW', X.limits, X.bytes, X.same.trans (hsame.setVm s.vm)⟩,
      ⟨g, mk, s₂, L, E, ce, rfl, rfl, hx, hce, hcv, hcl, rfl, hL, rfl, rfl⟩, ?_⟩
    show Steps p.tables e below _ (((({ U with heap := s₂.heap, slotsUsed := s₂.slotsUsed } : State).setVm s₂.vm).setTop g).pushFrame (.throwing q))
    rw [← hs₂]
    exact hsteps
end KLC
section KLI
variable {p : Program} {l : Launch} {e : Env} {R : Room} {s : State} {m : MethodId} {args : Array Value} {below : List Frame} {meth : Method} {c : Code} {Q : State → Prop} {x0 s0 : Nat}
variable {met : Nat → Nat → List Value → Hp → Out → Hp → Prop} {hd : Nat → Option Nat} {d : Nat} {G : Hp} {pc : Nat} {ls st : List Value} {cc : ByteArray}
/-- out of a method without handlers, whatever its class -/
theorem lm_exc (htb : c.exceptionTable = #[]) (hlk : meth.locks = false) {G' : Hp} {a : Nat} {H : Heap} {lsA : Array Slot} {locs : List Loc} {st' : List Value} (hE : Exc p l e R s m args below meth c Q x0 s0 (fun _ => none) G' ls a) (ht : tex (gT G' a) = true) (hba : gB G' ≤ a)
    (h2 : HpA s H G') (h4 : ∀ q ∈ locs, gB G' ≤ q.base) : vx_W p l e R s m args below meth c H locs (gX G' - x0) (gS G' - s0) Q (F0 m pc lsA st') a := by
  have hcell : ∃ cell : Cell, H[a]? = some cell ∧ cell.vm = .none ∧ s.vm.findClass (cNm (gT G' a)) = some cell.cls := by
    have htc := tex_tcl ht
    obtain ⟨-, -, ⟨D, cA, hK, hc⟩, -, -⟩ := h2
    rcases hc a with q | ⟨cell, q1, q2, q3, q4, ⟨-, q6, -⟩ | ⟨q, -⟩ | ⟨q, -⟩⟩
    · rw [q] at htc; exact absurd htc tcl_0
    · exact ⟨cell, q1, q4 hba, by rw [q6]; exact (hK.1 _ htc).2.1⟩
    · exact (tcl_tar htc q).elim
    · exact (tcl_tlm htc q).elim
  obtain ⟨ce, c1, c2, c3⟩ := hcell
  rcases hE with ⟨-, hR1, hR2, hQ⟩ | ⟨h, hs, -⟩
  · subst hQ
    intro T hT X
    obtain ⟨vm', hW', X', st⟩ := X.outThrough hlk a (g := F0 m pc lsA st') rfl rfl rfl (cell := ce) (by rw [hT]; exact c1) (by rw [c2]; rfl)
      (by obtain ⟨k9, h9, -⟩ := Vm.findClass_spec c3; exact ⟨k9, h9⟩) (fun z hz => by rw [htb] at hz; cases hz)
    obtain ⟨g₀, hfr⟩ := X'.frames_eq
    have hcell9 : ((T.setVm vm').setFrames (.throwing a :: below)).heap[a]? = some ce := by
      show T.heap[a]? = some ce
      rw [hT]; exact c1
    have hend : Ended ((T.setVm vm').setFrames (.throwing a :: below)) below (.threw a) := State.frames_setFrames _ (State.cur_lt_of_frames hfr)
    have hX : zXC (.inr a) G' (cNm (gT G' a)) a s ((T.setVm vm').setFrames (.throwing a :: below)) := ⟨rfl, by
      show HpA _ T.heap G'
      rw [hT]
      exact h2.moved (X'.ends _).1.alike, rfl, ht, hba⟩
    refine ⟨(T.setVm vm').setFrames (.throwing a :: below), ?_, .threw a, X'.here.running, hend, Or.inr ⟨a, rfl, _, ce, locs, hX, hcell9, c2, c3, (X'.ends _).1, (X'.ends _).2.mono (by rw [hR1]; exact Nat.le_refl _) (by rw [hR2]; exact Nat.le_refl _), h4⟩⟩
    rw [X.pushThrowing_eq]
    exact st
  · cases hs
/-- what was captured is read -/
theorem lm_get {t j b : Nat} {rest : List Value} (ht : tlm t = true) (hgt : gT G b = t) (hj : j < lmL t) (hlF : lamF s t m.cls) (hw0 : ∀ U : State, s.WarmedH U.vm → (Cond.instantiable "java/lang/Object" 0).before #[] U = true)
    (hx : p.tables.exec = Jvm.exec) (hb : c.code = cc) (hg : decode cc pc = .ok (.getfield (lmF t j), 3)) :
    CmdK p l e R s m args below meth c Q x0 s0 met hd d G pc ls (.ref b :: rest) (cJ (pc + 3) ls (fval G b j (lmTy t j) :: rest) G) := by
  intro _ _ _ kk lsA H locs h1 h2 h3 h4 h5 h6 T hT X
  obtain ⟨tt, a1, b1⟩ := kk lsA H locs h1 h2 h3 h4 h5 h6 T hT X
  obtain ⟨-, -, ⟨D, cA, hK, hc⟩, -, -⟩ := h2
  have htb : tlm (gT G b) = true := by rw [hgt]; exact ht
  rcases hc b with q | ⟨cell, q1, q2, q3, q4, ⟨q, -⟩ | ⟨q, -⟩ | ⟨-, q6, q7⟩⟩
  · rw [q] at htb; exact absurd htb tlm_0
  · exact (tcl_tlm q htb).elim
  · exact (tar_tlm q htb).elim
  · rw [hgt] at q7
    obtain ⟨k, tk, meth9, cd, cf, file, target, r0, iface, tc, z1, z2, z3, z4, z5, z6, z7, z8, z9, z10, z11, z12, z13, z14, z15, z16, z17, z18, z19, z20, z21, z22, z23, -⟩ := (hlF.warm X.warmed).spec ht (hw0 T X.warmed)
    obtain ⟨fd, f1, f2, f3⟩ := z23 j hj
    have hv : cell.slots[fd.slot]? = some (fval G b j (lmTy t j)) := by rw [f2]; exact q7 j hj
    refine ⟨tt, ?_, b1⟩
    have hdg : decode c.code (F0 m pc lsA (.ref b :: rest)).pc = .ok (.getfield (lmF t j), 3) := by rw [hb]; exact hg
    jvm_step X.here [hx, hdg, getfield.wp_ready (e := e) (s := T) (f := F0 m pc lsA (.ref b :: rest)) X.here.top f1 f3 rfl (by rw [hT]; exact q1) q3 hv]
    exact a1
/-- the way into the lambda's own body -/
theorem lm_intoV {C : String} {t z : Nat} {H : Heap} {lsA : Array Slot} {rest As : List Value} {bytes : ByteArray} {maxL : Nat} {ret : Option FieldType} (ht : tlm t = true) (hlF : lamF s t m.cls) (hw0 : ∀ U : State, s.WarmedH U.vm → (Cond.instantiable "java/lang/Object" 0).before #[] U = true) (hws : ∀ w ∈ lw_all, ∀ (a' : Array Value) (U : State), s.WarmedH U.vm → w.before a' U = true)
    (hc : CodeL (lmY t) bytes maxL ret) (hin : Cond.instanceMethod (lmY t) ∈ lw_all) (hse : Cond.selects C (lmY t) (lmY t) ∈ lw_all) (har : arity (lmY t) As.length)
    (hr : ∃ cell : Cell, H[z]? = some cell ∧ cell.vm.isStatics = false ∧ s.vm.findClass C = some cell.cls) (hx : p.tables.exec = Jvm.exec) (hb : c.code = cc) (hg : decode cc pc = .ok (.invokevirtual (lmI t), 3)) :
    Into p l e R s m args below meth c H (lmY t) (.ref z :: As) 3 (F0 m pc lsA (As.reverse ++ .ref z :: rest)) rest := by
  intro T locs cells slots hT X
  have hy : npoly (lmY t).cls := by rcases lm_all ht with rfl | rfl | rfl | rfl | rfl | rfl <;> exact ⟨by decide, by decide⟩
  have hT9 : ∀ w ∈ lw_all, w.before args T = true := fun w hw => hws w hw _ _ X.warmed
  obtain ⟨cellB, hcB, hobj, hcls⟩ := hr
  obtain ⟨mk, methM, hnamed, hmethM, hstM, habM⟩ := Cond.instanceMethod_spec (hT9 _ hin)
  obtain ⟨mk', methM', hnamed', hmethM', -, hsigM⟩ := codeL_spec hT9 hc
  cases hnamed.symm.trans hnamed'
  cases hmethM.symm.trans hmethM'
  obtain ⟨c2, r2, m2, q1, q2, q3, q4, kP, hkP, hkPi⟩ := Cond.selects_spec (hT9 _ hse)
  have hcls' : T.vm.findClass C = some cellB.cls := by rw [X.warmed.alike.findClass]; exact hcls
  cases hcls'.symm.trans q1
  have hfm := State.methodFound?_of_named hnamed hy
  cases hfm.symm.trans q2
  cases hnamed.symm.trans q3
  have hselP : selectMethod e.platform T.vm cellB.cls mk = .method mk := by rw [Launch.admits_selectMethod X.admits]; exact q4
  obtain ⟨k, tk, meth9, cd, cf, file, target, r0, iface, tc, z1, z2, z3, z4, z5, z6, z7, z8, z9, z10, z11, z12, z13, z14, z15, z16, z17, z18, z19, z20, ⟨n9, z21, z21'⟩, z22, -⟩ := (hlF.warm X.warmed).spec ht (hw0 T X.warmed)
  cases hfm.symm.trans z19
  obtain ⟨kQ, hkQ, hkQn⟩ := className_of_methodNamed hnamed
  cases hkQ.symm.trans hkP
  have hpoly : signaturePolymorphic kP methM = false := signaturePolymorphic_of_name (by rw [hkQn]; exact hy) _
  have hn9 : s.methodNamed? (lmY t) = some mk := by
    have := State.methodNamed?_setVm (s := s) X.warmed.alike (lmY t)
    have h9 : (s.setVm T.vm).methodNamed? (lmY t) = T.methodNamed? (lmY t) := rfl
    rw [← this, h9]
    exact hnamed
  refine ⟨mk, T.vm, _, hn9, X, X.warmed, by rw [hb]; exact hg, fun target hrest => ?_⟩
  have hdg : decode c.code (F0 m pc lsA (As.reverse ++ .ref z :: rest)).pc = .ok (.invokevirtual (lmI t), 3) := by rw [hb]; exact hg
  have hnm : namesAClass T m.cls (lmI t) := ⟨k, file, lmC t, n9, tc, tk, z1, z5, z21, z22, z17, z18⟩
  jvm_step X.here [hx, hdg, invokevirtual.wp_ready (e := e) (s := T) (f := F0 m pc lsA (As.reverse ++ .ref z :: rest)) (args := As) (rest := rest) X.here.top hnm z20 hkQ hmethM hpoly hstM (arity_len har _ hsigM) rfl (by rw [hT]; exact hcB) (fun q h => by rw [h] at hobj; cases hobj) hselP hmethM habM hkQ hkPi]
  intro acts
  rw [doInvoke_state]
  exact hrest
theorem lm_intoS {t : Nat} {H : Heap} {lsA : Array Slot} {rest As : List Value} {bytes : ByteArray} {maxL : Nat} {ret : Option FieldType} (ht : tlm t = true) (hlF : lamF s t m.cls) (hw0 : ∀ U : State, s.WarmedH U.vm → (Cond.instantiable "java/lang/Object" 0).before #[] U = true) (hws : ∀ w ∈ lw_all, ∀ (a' : Array Value) (U : State), s.WarmedH U.vm → w.before a' U = true)
    (hc : CodeL (lmY t) bytes maxL ret) (hst : Cond.static (lmY t) ∈ lw_all) (hini : Cond.initialized (lmY t).cls ∈ lw_all) (har : arity (lmY t) As.length)
    (hx : p.tables.exec = Jvm.exec) (hb : c.code = cc) (hg : decode cc pc = .ok (.invokestatic (lmI t), 3)) :
    Into p l e R s m args below meth c H (lmY t) As 3 (F0 m pc lsA (As.reverse ++ rest)) rest := by
  intro T locs cells slots hT X
  have hy : npoly (lmY t).cls := by rcases lm_all ht with rfl | rfl | rfl | rfl | rfl | rfl <;> exact ⟨by decide, by decide⟩
  have hT9 : ∀ w ∈ lw_all, w.before args T = true := fun w hw => hws w hw _ _ X.warmed
  obtain ⟨mk, methM, hnamed, hmethM, -, hsigM⟩ := codeL_spec hT9 hc
  have hstatic : methM.isStatic = true := Cond.static_spec hnamed hmethM (hT9 _ hst)
  obtain ⟨kP, hkP, hkPn⟩ := className_of_methodNamed hnamed
  have hinitP : kP.init = .initialized := Cond.initialized_spec (findClass_of_methodNamed hnamed) hkP (hT9 _ hini)
  have hfm := State.methodFound?_of_named hnamed hy
  obtain ⟨k, tk, meth9, cd, cf, file, target, r0, iface, tc, z1, z2, z3, z4, z5, z6, z7, z8, z9, z10, z11, z12, z13, z14, z15, z16, z17, z18, z19, z20, ⟨n9, z21, z21'⟩, z22, -⟩ := (hlF.warm X.warmed).spec ht (hw0 T X.warmed)
  cases hfm.symm.trans z19
  have hpoly : ∀ y9, signaturePolymorphic kP y9 = false := fun y9 => signaturePolymorphic_of_name (by rw [hkPn]; exact hy) _
  have hn9 : s.methodNamed? (lmY t) = some mk := by
    have := State.methodNamed?_setVm (s := s) X.warmed.alike (lmY t)
    have h9 : (s.setVm T.vm).methodNamed? (lmY t) = T.methodNamed? (lmY t) := rfl
    rw [← this, h9]
    exact hnamed
  refine ⟨mk, T.vm, _, hn9, X, X.warmed, by rw [hb]; exact hg, fun target hrest => ?_⟩
  have hdg : decode c.code (F0 m pc lsA (As.reverse ++ rest)).pc = .ok (.invokestatic (lmI t), 3) := by rw [hb]; exact hg
  have htc : kP = tk := by
    have h1 := findClass_of_methodNamed hnamed
    cases h1.symm.trans z16
    exact Option.some.inj (hkP.symm.trans z17)
  have href : plainRef T e m.cls (lmI t) := ⟨lmC t, _, _, false, tc, tk, memberRef_ask_via (via := false) z1 z5 z21 z21', z22, z17, by rw [← htc]; simp [hpoly]⟩
  jvm_step X.here [hx, hdg, invokestatic.wp_ready (e := e) (s := T) (f := F0 m pc lsA (As.reverse ++ rest)) (args := As) (rest := rest) X.here.top href z20 hkP hmethM (hpoly _) hstatic hinitP (arity_len har _ hsigM) rfl]
  intro acts
  rw [doInvoke_state]
  exact hrest
end KLI

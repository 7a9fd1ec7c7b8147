/-! LAMBDAS: a made method's run; a call of it -/
set_option maxRecDepth 100000
theorem Fl_cons {p : Program} {l : Launch} {e : Env} {R : Room} {s : State} {m : MethodId} {args : Array Value} {below : List Frame} {meth : Method} {c : Code} {Q : State → Prop} {x0 s0 : Nat} {met : Nat → Nat → List Value → Hp → Out → Hp → Prop} {hd : Nat → Option Nat} {d : Nat} {G : Hp} {pc pc' : Nat} {ls st ls' st' : List Value}
    (h : CmdK p l e R s m args below meth c Q x0 s0 met hd d G pc ls st (cJ pc' ls' st' G)) (h1 : gX G - x0 ≤ R.cells) (h2 : gS G - s0 ≤ R.slots) (k : WW p l e R s m args below meth c Q x0 s0 G pc' ls' st') : WW p l e R s m args below meth c Q x0 s0 G pc ls st :=
  h ⟨rfl, Nat.le_refl _, Nat.le_refl _⟩ h1 h2 k
section KLB
variable {p : Program} {l : Launch} {e : Env} {R : Room} {s : State} {m : MethodId} {args : Array Value} {below : List Frame} {meth : Method} {c : Code}
variable {d' : Nat} {G : Hp}
/-- the lambda's body is called, what it returns is returned -/
theorem lm_tail {t yi pc : Nat} {x : Value} {b : Nat} {as st0 : List Value} {o : Out} {G' : Hp} {bytes : ByteArray} {maxL : Nat} (yn : Nat → MethodName) (yr : Nat → Option FieldType) (hyn : yn yi = lmY t) (hyr : yr yi = lmRet t) (ht : tlm t = true) (hts : ∀ w ∈ lw_all, w.before args s = true) (htk : TK s) (hc : CodeL (lmY t) bytes maxL (lmRet t)) (hmax : maxL ≤ 111)
    (hRf : 2 * d' + 21 ≤ R.frames) (hRl : 260 * d' + 4130 ≤ R.locals) (hRc : R.cells = gX G' - gX G) (hRs : R.slots = gS G' - gS G) (htb : c.exceptionTable = #[]) (hlk : meth.locks = false) (hret : meth.sig.returnType = lmRet t) (hx : p.tables.exec = Jvm.exec) (hb : c.code = lmB t)
    (hg : grows G G') (hmet : zMet l (yn yi) lw_all d' as G o G' ∧ TyO (yr yi) o) (hdr : decode (lmB t) (pc + 3) = .ok (if t ≤ 30 then .ireturn else .return_, 1))
    (hI : ∀ (lsA : Array Slot) (H : Heap), HpA s H G → Into p l e R s m args below meth c H (lmY t) as 3 (F0 m pc lsA st0) []) :
    WW p l e R s m args below meth c (vx_MQ below (zQc o G') (zXC o G') args s R.cells R.slots (Abv G')) (gX G) (gS G) G pc [.ref b, x] st0 := by
  have hfin : ∀ o, FinK R s args below (vx_MQ below (zQc o G') (zXC o G') args s R.cells R.slots (Abv G')) (gX G) (gS G) o G' := fun o => ⟨hRc, hRs, rfl⟩
  have hcall := k_callR (p := p) (l := l) (e := e) (R := R) (s := s) (m := m) (args := args) (below := below) (meth := meth) (c := c) (Q := vx_MQ below (zQc o G') (zXC o G') args s R.cells R.slots (Abv G')) (x0 := gX G) (s0 := gS G) (d := d' + 1) (G := G) (pc := pc) (ls := [.ref b, x]) (st := st0) (yr := yr) (yi := yi) (len := 3) (pc' := pc + 3) (hd := fun _ => none) (as := as) (st' := []) yn hyn hts htk hc hmax (fun d9 h9 => by cases h9; exact hRf) (fun d9 h9 => by cases h9; exact hRl) (Nat.zero_le _) (fun hE h1 h2 h3 h4 h5 h6 h7 h8 => lm_exc htb hlk hE h1 h2 h4 h6) rfl (fun lsA H h1 h2 => hI lsA H h2)
  refine hcall d' o G' rfl hg (by rw [hRc]; exact Nat.le_refl _) (by rw [hRs]; exact Nat.le_refl _) hmet ?_
  cases o with
  | inr a => exact Or.inl ⟨rfl, hfin _⟩
  | inl v =>
    have hty := hmet.2 v rfl
    rw [hyr] at hty
    dsimp only
    unfold lmRet at hty hret
    by_cases h30 : t ≤ 30
    · rw [if_pos h30] at hty hret hdr
      cases v with
      | none => exact hty.elim
      | some w =>
        cases w with
        | int y =>
          exact k_retI (met := fun _ _ _ _ _ _ => True) (hd := fun _ => none) (d := 0) (G := G') (ls := [.ref b, x]) (st := [.int y]) hret hlk hx hb hdr (hfin _)
        | _ => exact hty.elim
    · rw [if_neg h30] at hty hret hdr
      cases v with
      | none => exact k_retV (met := fun _ _ _ _ _ _ => True) (hd := fun _ => none) (d := 0) (G := G') (ls := [.ref b, x]) (st := []) hret hlk hx hb hdr (hfin _)
      | some w => exact hty.elim
end KLB
section KLD
variable {p : Program} {l : Launch} {e : Env} {R : Room} {s : State} {m : MethodId} {args : Array Value} {below : List Frame} {meth : Method} {c : Code}
variable {d' : Nat} {G : Hp}
def lmTg (t : Nat) : Nat := if t ≤ 30 then 6 else 1
/-- words of a lambda's body -/
def LMW (t : Nat) (bytes : ByteArray) (maxL : Nat) : Prop := CodeL (lmY t) bytes maxL (lmRet t) ∧ maxL ≤ 111 ∧ (if t ≤ 28 then Cond.static (lmY t) ∈ lw_all ∧ Cond.initialized (lmY t).cls ∈ lw_all else Cond.instanceMethod (lmY t) ∈ lw_all ∧ Cond.selects (cNm (lmTg t)) (lmY t) (lmY t) ∈ lw_all)
theorem lm_body {t yi : Nat} {x : Value} {b : Nat} {o : Out} {G' : Hp} {bytes : ByteArray} {maxL : Nat} (yn : Nat → MethodName) (yr : Nat → Option FieldType) (hyn : yn yi = lmY t) (hyr : yr yi = lmRet t) (ht : tlm t = true) (hts : ∀ w ∈ lw_all, w.before args s = true) (htk : TK s) (hw : LMW t bytes maxL) (hobj0 : Cond.instantiable "java/lang/Object" 0 ∈ lw_all)
    (hRf : 2 * d' + 21 ≤ R.frames) (hRl : 260 * d' + 4130 ≤ R.locals) (hRc : R.cells = gX G' - gX G) (hRs : R.slots = gS G' - gS G) (htb : c.exceptionTable = #[]) (hlk : meth.locks = false) (hret : meth.sig.returnType = lmRet t) (hx : p.tables.exec = Jvm.exec) (hb : c.code = lmB t)
    (hg : grows G G') (hlF : lamF s t m.cls) (hgt : gT G b = t) (hcap : capOK G b t = true) (hrx : rf x = true) (hmet : zMet l (yn yi) lw_all d' (capV G b t ++ [x]) G o G' ∧ TyO (yr yi) o) :
    WW p l e R s m args below meth c (vx_MQ below (zQc o G') (zXC o G') args s R.cells R.slots (Abv G')) (gX G) (gS G) G 0 [.ref b, x] [] := by
  have hws : ∀ w ∈ lw_all, ∀ (a' : Array Value) (U : State), s.WarmedH U.vm → w.before a' U = true := pay_in hts lw_self
  have hw0 : ∀ U : State, s.WarmedH U.vm → (Cond.instantiable "java/lang/Object" 0).before #[] U = true := fun U hU => hws _ hobj0 _ _ hU
  obtain ⟨hc, hmax, hwk⟩ := hw
  have r1 : gX G - gX G ≤ R.cells := by omega
  have r2 : gS G - gS G ≤ R.slots := by omega
  have har1 : ∀ n, (parseMethodDescriptor (lmY t).desc).map (fun d => d.parameters.length) = some n → arity (lmY t) n := fun n h => h
  by_cases h28 : t ≤ 28
  · rw [if_pos h28] at hwk
    have hcv : capV G b t = [] := if_pos h28
    rw [hcv] at hmet
    have hB : lmB t = .mk #[43, 184, 0, 17, 172] := if_pos h28
    have hI : lmI t = 17 := if_pos h28
    have d0 : decode (lmB t) 0 = .ok (.aload_n 1, 1) := by rw [hB]; rfl
    have d1 : decode (lmB t) 1 = .ok (.invokestatic (lmI t), 3) := by rw [hB, hI]; rfl
    have d4 : decode (lmB t) (1 + 3) = .ok (if t ≤ 30 then .ireturn else .return_, 1) := by rw [hB, if_pos (by omega)]; rfl
    have hT := lm_tail (e := e) (below := below) (x := x) (b := b) (as := [x]) (st0 := [x]) (pc := 1) yn yr hyn hyr ht hts htk hc hmax hRf hRl hRc hRs htb hlk hret hx hb hg hmet d4 (fun lsA H h2 => lm_intoS (As := [x]) (rest := []) ht hlF hw0 hws hc hwk.1 hwk.2 (by rcases lm_all ht with rfl | rfl | rfl | rfl | rfl | rfl <;> first | (exfalso; omega) | exact har1 1 (by decide +kernel)) hx hb d1)
    have c0 := k_aload_n (p := p) (l := l) (e := e) (R := R) (s := s) (m := m) (args := args) (below := below) (meth := meth) (c := c) (Q := vx_MQ below (zQc o G') (zXC o G') args s R.cells R.slots (Abv G')) (x0 := gX G) (s0 := gS G) (met := fun _ _ _ _ _ _ => True) (hd := fun _ => none) (d := 0) (G := G) (pc := 0) (ls := [.ref b, x]) (st := []) (cc := lmB t) (i := 1) (k := 1) rfl hx hb d0
    unfold pAload at c0
    rw [if_pos (show rf ([Value.ref b, x].getD 1 UV) = true from hrx)] at c0
    exact Fl_cons c0 r1 r2 hT
  · rw [if_neg h28] at hwk
    unfold capOK at hcap
    rw [if_neg h28] at hcap
    cases hz : gR G b 0 with
    | none => rw [hz] at hcap; cases hcap
    | some z =>
      rw [hz] at hcap
      dsimp only at hcap
      have hzt : gT G z = lmTg t := by unfold lmTg; exact beq_iff_eq.mp hcap
      have hzr : ∀ H, HpA s H G → ∃ cell : Cell, H[z]? = some cell ∧ cell.vm.isStatics = false ∧ s.vm.findClass (cNm (lmTg t)) = some cell.cls := by
        intro H h2
        have := h2.obj (a := z) (by rw [hzt]; unfold lmTg; split <;> decide)
        rw [hzt] at this
        exact this
      by_cases h31 : t ≤ 31
      · have hcv : capV G b t = [.ref z] := by unfold capV; rw [if_neg h28, if_pos h31, hz]; rfl
        rw [hcv] at hmet
        have hI : lmI t = 22 := by unfold lmI; rw [if_neg h28, if_pos h31]
        have hF : lmF t 0 = 15 := if_pos h31
        have hL : 0 < lmL t := by rcases lm_all ht with rfl | rfl | rfl | rfl | rfl | rfl <;> first | (exfalso; omega) | decide
        have hty : fval G b 0 (lmTy t 0) = .ref z := by
          have : ∃ C, lmTy t 0 = .object C := by rcases lm_all ht with rfl | rfl | rfl | rfl | rfl | rfl <;> first | (exfalso; omega) | exact ⟨_, rfl⟩
          obtain ⟨C, hC⟩ := this
          rw [hC]
          show va_rf (gR G b 0) = _
          rw [hz]; rfl
        have d0 : decode (lmB t) 0 = .ok (.aload_n 0, 1) := by rcases lm_all ht with rfl | rfl | rfl | rfl | rfl | rfl <;> first | (exfalso; omega) | rfl
        have d1 : decode (lmB t) 1 = .ok (.getfield (lmF t 0), 3) := by rw [hF]; rcases lm_all ht with rfl | rfl | rfl | rfl | rfl | rfl <;> first | (exfalso; omega) | rfl
        have d4 : decode (lmB t) 4 = .ok (.aload_n 1, 1) := by rcases lm_all ht with rfl | rfl | rfl | rfl | rfl | rfl <;> first | (exfalso; omega) | rfl
        have d5 : decode (lmB t) 5 = .ok (.invokevirtual (lmI t), 3) := by rw [hI]; rcases lm_all ht with rfl | rfl | rfl | rfl | rfl | rfl <;> first | (exfalso; omega) | rfl
        have d8 : decode (lmB t) (5 + 3) = .ok (if t ≤ 30 then .ireturn else .return_, 1) := by rcases lm_all ht with rfl | rfl | rfl | rfl | rfl | rfl <;> first | (exfalso; omega) | rfl
        have hT := lm_tail (e := e) (below := below) (x := x) (b := b) (as := .ref z :: [x]) (st0 := [x, .ref z]) (pc := 5) yn yr hyn hyr ht hts htk hc hmax hRf hRl hRc hRs htb hlk hret hx hb hg hmet d8 (fun lsA H h2 => lm_intoV (As := [x]) (rest := []) ht hlF hw0 hws hc hwk.1 hwk.2 (by rcases lm_all ht with rfl | rfl | rfl | rfl | rfl | rfl <;> first | (exfalso; omega) | exact har1 1 (by decide +kernel)) (hzr H h2) hx hb d5)
        have c0 := k_aload_n (p := p) (l := l) (e := e) (R := R) (s := s) (m := m) (args := args) (below := below) (meth := meth) (c := c) (Q := vx_MQ below (zQc o G') (zXC o G') args s R.cells R.slots (Abv G')) (x0 := gX G) (s0 := gS G) (met := fun _ _ _ _ _ _ => True) (hd := fun _ => none) (d := 0) (G := G) (pc := 0) (ls := [.ref b, x]) (st := []) (cc := lmB t) (i := 0) (k := 0) rfl hx hb d0
        unfold pAload at c0
        rw [if_pos (show rf ([Value.ref b, x].getD 0 UV) = true from rfl)] at c0
        have c1 := lm_get (p := p) (l := l) (e := e) (R := R) (s := s) (m := m) (args := args) (below := below) (meth := meth) (c := c) (Q := vx_MQ below (zQc o G') (zXC o G') args s R.cells R.slots (Abv G')) (x0 := gX G) (s0 := gS G) (met := fun _ _ _ _ _ _ => True) (hd := fun _ => none) (d := 0) (G := G) (pc := 1) (ls := [.ref b, x]) (cc := lmB t) (b := b) (rest := []) ht hgt hL hlF hw0 hx hb d1
        rw [hty] at c1
        have c4 := k_aload_n (p := p) (l := l) (e := e) (R := R) (s := s) (m := m) (args := args) (below := below) (meth := meth) (c := c) (Q := vx_MQ below (zQc o G') (zXC o G') args s R.cells R.slots (Abv G')) (x0 := gX G) (s0 := gS G) (met := fun _ _ _ _ _ _ => True) (hd := fun _ => none) (d := 0) (G := G) (pc := 4) (ls := [.ref b, x]) (st := [.ref z]) (cc := lmB t) (i := 1) (k := 1) rfl hx hb d4
        unfold pAload at c4
        rw [if_pos (show rf ([Value.ref b, x].getD 1 UV) = true from hrx)] at c4
        exact Fl_cons c0 r1 r2 (Fl_cons c1 r1 r2 (Fl_cons c4 r1 r2 hT))
      · have h32 : t = 32 := by rcases lm_all ht with rfl | rfl | rfl | rfl | rfl | rfl <;> omega
        subst h32
        have hcv : capV G b 32 = [.ref z, .int (gI G b 1)] := by unfold capV; rw [if_neg h28, if_neg h31, hz]; rfl
        rw [hcv] at hmet
        have hty0 : fval G b 0 (lmTy 32 0) = .ref z := by
          show va_rf (gR G b 0) = _
          rw [hz]; rfl
        have hty1 : fval G b 1 (lmTy 32 1) = .int (gI G b 1) := rfl
        have hT := lm_tail (e := e) (below := below) (t := 32) (x := x) (b := b) (as := .ref z :: [.int (gI G b 1), x]) (st0 := [x, .int (gI G b 1), .ref z]) (pc := 9) yn yr hyn hyr ht hts htk hc hmax hRf hRl hRc hRs htb hlk hret hx hb hg hmet rfl (fun lsA H h2 => lm_intoV (t := 32) (As := [.int (gI G b 1), x]) (rest := []) ht hlF hw0 hws hc hwk.1 hwk.2 (har1 2 (by decide +kernel)) (hzr H h2) hx hb rfl)
        have ka : ∀ (pc i : Nat) (k : Fin 4) (st : List Value), (k : Nat) = i → decode (lmB 32) pc = .ok (.aload_n k, 1) → rf ([Value.ref b, x].getD i UV) = true → CmdK p l e R s m args below meth c (vx_MQ below (zQc o G') (zXC o G') args s R.cells R.slots (Abv G')) (gX G) (gS G) (fun _ _ _ _ _ _ => True) (fun _ => none) 0 G pc [.ref b, x] st (cJ (pc + 1) [.ref b, x] ([Value.ref b, x].getD i UV :: st) G) := by
          intro pc i k st hki hdk hri
          have := k_aload_n (p := p) (l := l) (e := e) (R := R) (s := s) (m := m) (args := args) (below := below) (meth := meth) (c := c) (Q := vx_MQ below (zQc o G') (zXC o G') args s R.cells R.slots (Abv G')) (x0 := gX G) (s0 := gS G) (met := fun _ _ _ _ _ _ => True) (hd := fun _ => none) (d := 0) (G := G) (pc := pc) (ls := [.ref b, x]) (st := st) (cc := lmB 32) (i := i) (k := k) hki hx hb hdk
          unfold pAload at this
          rw [if_pos hri] at this
          exact this
        have kg : ∀ (pc j : Nat) (rest : List Value) (v : Value), j < lmL 32 → decode (lmB 32) pc = .ok (.getfield (lmF 32 j), 3) → fval G b j (lmTy 32 j) = v → CmdK p l e R s m args below meth c (vx_MQ below (zQc o G') (zXC o G') args s R.cells R.slots (Abv G')) (gX G) (gS G) (fun _ _ _ _ _ _ => True) (fun _ => none) 0 G pc [.ref b, x] (.ref b :: rest) (cJ (pc + 3) [.ref b, x] (v :: rest) G) := by
          intro pc j rest v hj hdg hv
          rw [← hv]
          exact lm_get ht hgt hj hlF hw0 hx hb hdg
        exact Fl_cons (ka 0 0 0 [] rfl rfl rfl) r1 r2 (Fl_cons (kg 1 0 [] _ (by decide) rfl hty0) r1 r2 (Fl_cons (ka 4 0 0 [.ref z] rfl rfl rfl) r1 r2 (Fl_cons (kg 5 1 [.ref z] _ (by decide) rfl hty1) r1 r2 (Fl_cons (ka 8 1 1 [.int (gI G b 1), .ref z] rfl rfl hrx) r1 r2 hT))))
end KLD
theorem lm_room {d' a b r : Nat} (h : 260 * (d' + 1) + 4000 ≤ r) (hc : a ≤ 2 * b) (hr : b ≤ 4) : 0 + a + (2 + 11) + (260 * d' + 4200) ≤ r := by omega
section KLE
variable {p : Program} {l : Launch} {e : Env} {R : Room} {s : State} {m : MethodId} {args : Array Value} {below : List Frame} {meth : Method} {c : Code} {Q : State → Prop} {x0 s0 : Nat}
variable {d : Nat} {G : Hp} {pc : Nat} {ls st : List Value} {cc : ByteArray}
/-- a call of a made object -/
theorem k_callL {t yi index count pc' b : Nat} {x : Value} {hd : Nat → Option Nat} {tb : List ExceptionTableEntry} {st' : List Value} {own : String} {y0 : MethodName} {bytes : ByteArray} {maxL : Nat} (yn : Nat → MethodName) (yr : Nat → Option FieldType) (hyn : yn yi = lmY t) (hyr : yr yi = lmRet t) (ht : tlm t = true) (hts : ∀ w ∈ lw_all, w.before args s = true) (htk : TK s) (hw : LMW t bytes maxL) (hobj0 : Cond.instantiable "java/lang/Object" 0 ∈ lw_all)
    (hy0 : y0 = ⟨lmIf t, lmNm t, lmDs t⟩) (hl : Cond.methodLink own index y0 ∈ lw_all) 
    (hRf : 2 * d + 20 ≤ R.frames) (hRl : 260 * d + 4000 ≤ R.locals) (hrest : st'.length ≤ 4) (hown : s.vm.findClass own = some m.cls) (htb : c.exceptionTable.toList = tb) (hT : TB s args own tb pc hd) (hlk : meth.locks = false) (hpc : pc + 5 = pc')
    (hx : p.tables.exec = Jvm.exec) (hb : c.code = cc) (hg : decode cc pc = .ok (.invokeinterface index count, 5)) (hgt : gT G b = t) (hcap : capOK G b t = true) (hrx : rf x = true) :
    CmdK p l e R s m args below meth c Q x0 s0 (fun d' y' as G o G' => zMet l (yn y') lw_all d' as G o G' ∧ TyO (yr y') o) hd d G pc ls (x :: .ref b :: st') (cC yi (capV G b t ++ [x]) pc' st') := by
  intro d' o G' hd1 hgr hcl hsl hmet hk lsA H locs h1 h2 h3 h4 h5 h6 T hTh X
  subst hd1
  subst hpc
  obtain ⟨gK1, gX1, gS1⟩ := hgr
  have hws : ∀ w ∈ lw_all, ∀ (a' : Array Value) (U : State), s.WarmedH U.vm → w.before a' U = true := pay_in hts lw_self
  have hlF := (h3.2 t ht).1
  have htb' : tlm (gT G b) = true := by rw [hgt]; exact ht
  obtain ⟨cellB, hcB, hobj, hcls⟩ := h2.lam htb'
  rw [hgt] at hcls
  obtain ⟨k, tk, methM, cd, cf, file, target, r0, iface, tc, z1, z2, z3, z4, z5, z6, z7, z8, z9, z10, z11, z12, z13, z14, z15, z16, z17, z18, z19, z20, z21, z22, z23, z24, z25, z26, z27, z28⟩ := hlF.spec ht (hws _ hobj0 _ _ (State.WarmedH.refl s))
  subst hy0
  obtain ⟨r0', r, cI, kI, hn, hrm, hstR, hsigR, hcI, hkI, hiI⟩ := (h3.2 t ht).2.2
  have hcI9 : cI = iface := Option.some.inj (hcI.symm.trans z24)
  subst hcI9
  have hnp : npoly (⟨lmIf t, lmNm t, lmDs t⟩ : MethodName).cls := by rcases lm_all ht with rfl | rfl | rfl | rfl | rfl | rfl <;> exact ⟨by decide, by decide⟩
  have hfI := State.methodFound?_of_named hn hnp
  have hr0 : r0' = r0 := by
    unfold State.methodFound? at hfI
    rw [z24] at hfI
    simp only [Option.bind_eq_bind, Option.bind_some, hkI, hiI, z25] at hfI
    exact (Option.some.inj hfI).symm
  subst hr0
  have hr0c : r0'.cls = cI := Option.some.inj ((findClass_of_methodNamed hn).symm.trans z24)
  obtain ⟨hnmR, hdsR⟩ := name_of_methodNamed hn hrm
  have har : arity ⟨lmIf t, lmNm t, lmDs t⟩ 1 := by rcases lm_all ht with rfl | rfl | rfl | rfl | rfl | rfl <;> (unfold arity; decide +kernel)
  have hpub : hasFlag methM.accessFlags Acc.public_ = true := by rw [z7]; decide
  have habs : methM.isAbstract = false := by unfold Method.isAbstract; rw [z7]; decide
  have hlkM : methM.locks = false := by unfold Method.locks Method.isSynchronized; rw [z7, show hasFlag 1 Acc.synchronized = false by decide, Bool.false_and]
  obtain ⟨vm₁, X₁, hstep₁⟩ := X.invokeinterface hx hown (hts _ hl) hn hrm hstR (by rw [hr0c]; exact hkI) hiI hnp (a := b) (cell := cellB) (kcell := k) (by rw [hTh]; exact hcB) (fun q h => by rw [h] at hobj; cases hobj) (by rw [hcls]; exact z1) (by rw [hr0c, hcls]; exact z26)
    (by rw [Launch.admits_selectMethod X.admits, hcls]; exact z27) z6 (by rw [hnmR, hdsR, hcls]; exact z28) hpub habs (g := F0 m pc lsA (x :: .ref b :: st')) rfl (argsL := [x]) (rest := st') (arity_len har _ hsigR) rfl (by rw [hb]; exact hg)
  have hcat := cat_sum st'
  have hW₁ : s.WarmedH vm₁ := X₁.warmed
  obtain ⟨k', hk', he'⟩ := hW₁.alike.2.2 _ _ z1
  have hdg : decode c.code ({ F0 m pc lsA (x :: .ref b :: st') with stack := st' } : JFrame).pc = .ok (.invokeinterface index count, 5) := by rw [hb]; exact hg
  obtain ⟨R2, hR2⟩ : ∃ R2 : Room, R2 = { frames := 2 * d' + 21, cells := gX G' - gX G, slots := gS G' - gS G, locals := 260 * d' + 4200 } := ⟨_, rfl⟩
  have hf2 : R2.frames = 2 * d' + 21 := by rw [hR2]
  have hl2 : R2.locals = 260 * d' + 4200 := by rw [hR2]
  have hc2 : R2.cells = gX G' - gX G := by rw [hR2]
  have hs2' : R2.slots = gS G' - gS G := by rw [hR2]
  have hmr : 2 * ({ F0 m pc lsA (x :: .ref b :: st') with stack := st' } : JFrame).monitorRoom = 0 := rfl
  have hlo : ∀ a9 : Nat, a9 = 0 → ∀ {b9 : Nat}, b9 = (st'.map fun v => v.category).sum → a9 + b9 + (cd.maxLocals + 11) + R2.locals ≤ R.locals := by
    intro a9 ha b9 hb9
    rw [ha, hb9, hl2, z14]
    exact lm_room hRl hcat hrest
  obtain ⟨Y, hin⟩ := X₁.into (g := { F0 m pc lsA (x :: .ref b :: st') with stack := st' }) rfl h1.sz hdg (mk := ⟨gA G (200 + t), 1⟩) (methk := methM) (ck := cd) (a := [Value.ref b, x].toArray) (R' := R2)
    (by show vm₁.method? _ = _; rw [hW₁.alike.method?]; exact z6) z12 hlkM (State.plainMethod.of_name fun k9 hk9 => by
      have : k9 = k' := Option.some.inj (hk9.symm.trans hk')
      rw [this, he']
      show plainName k.name = true
      rw [z3]
      rcases lm_all ht with rfl | rfl | rfl | rfl | rfl | rfl <;> decide +kernel)
    (by rw [hf2]; omega) (hlo _ hmr rfl) (by rw [hc2]; omega) (by rw [hs2']; omega)
  have hts2 : ∀ w ∈ lw_all, w.before [Value.ref b, x].toArray ((T.setVm vm₁).calling { F0 m pc lsA (x :: .ref b :: st') with stack := st' } ⟨gA G (200 + t), 1⟩ [Value.ref b, x].toArray) = true := fun w hw9 => hws w hw9 _ _ hW₁
  have eA : Abv G' = Abv G := by unfold Abv; rw [gB_gK gK1]
  have hbody := lm_body (e := e) (below := .java { F0 m pc lsA (x :: .ref b :: st') with stack := st' } :: below) (p := p) (l := l) (R := R2) (s := (T.setVm vm₁).calling { F0 m pc lsA (x :: .ref b :: st') with stack := st' } ⟨gA G (200 + t), 1⟩ [Value.ref b, x].toArray) (m := ⟨gA G (200 + t), 1⟩) (args := [Value.ref b, x].toArray) (meth := methM) (c := cd) (d' := d') (o := o) (G' := G') (x := x) (b := b) yn yr hyn hyr ht hts2 (TK.warm hW₁ htk) hw hobj0 (by rw [hf2]; exact Nat.le_refl _) (by rw [hl2]; omega) hc2 hs2' z15 hlkM z10 hx z13 ⟨gK1, gX1, gS1⟩ (hlF.warm hW₁) hgt hcap hrx hmet
  have hent : ent 2 [Value.ref b, x] = [Value.ref b, x] := by
    unfold ent entp
    rw [List.foldr_cons, List.foldr_cons, List.foldr_nil, en1_rf hrx, en1_ref]
    rfl
  have hls := ent_ok (as := [Value.ref b, x]) (n := 2) (by rw [List.foldr_cons, List.foldr_cons, List.foldr_nil, en1_rf hrx, en1_ref]; exact Nat.le_refl _)
  rw [hent] at hls
  have w9 := hbody _ H [] (by rw [z14]; exact hls) (h2.moved hW₁.alike) (strK.warm hW₁ (fun q _ => vk_R.warm hW₁) h3) (fun q hq => by cases hq) (Nat.le_refl _) (Nat.le_refl _)
  rw [Nat.sub_self, Nat.sub_self] at w9
  obtain ⟨t2, hs2, o2, hrun2, hend2, hq2⟩ := w9 _ (by exact hTh) Y
  rw [← lg_entry_eq, ← z14] at hs2
  have hs3 : Steps p.tables e below (doInvoke e ((T.setVm vm₁).setTop { F0 m pc lsA (x :: .ref b :: st') with stack := st' }) [] ⟨gA G (200 + t), 1⟩ [Value.ref b, x].toArray).1 t2 := by
    rw [hin []]
    exact Steps.weak hs2
  rw [eA, hc2, hs2'] at hq2
  rcases z_cont X₁ (g := { F0 m pc lsA (x :: .ref b :: st') with stack := st' }) rfl hdg hs3 (by rw [X₁.tail]; exact hend2) hq2 with ⟨v, ⟨U', l2, c2, s2⟩, X', ⟨g', mk', tz, L, e1, e2, ⟨v', ho, hv, hHp⟩, q1, hL, q2, q3⟩, hsteps⟩ | ⟨q, ⟨U', l2, c2, s2⟩, X', ⟨g', mk', tz, L, E, ce, e1, e2, ⟨ho, hHp, hE, htx, hbq⟩, hce, hcv, hcls9, q1, hL, q2, q3⟩, hsteps⟩
  · dsimp only [Pt.U, Pt.locs, Pt.cells, Pt.slots] at X' e1 e2 q1 q2 q3 hsteps
    subst q1; subst q2; subst q3
    cases hv
    subst ho
    have hp' : HpA s U'.heap G' := by
      rw [e1]
      refine hHp.moved ?_
      rw [← e2]
      exact X'.warmed.alike.symm
    have w := hk lsA U'.heap (locs ++ L) h1 hp' (h3.gk gK1) (fun z hz => by
      rw [gB_gK gK1]
      rcases List.mem_append.mp hz with y1 | y1
      · exact h4 z y1
      · exact hL z y1) (Nat.le_trans h5 gX1) (Nat.le_trans h6 gS1)
    have a1 : gX G' - x0 = gX G - x0 + (gX G' - gX G) := by omega
    have a2 : gS G' - s0 = gS G - s0 + (gS G' - gS G) := by omega
    rw [a1, a2] at w
    obtain ⟨tt, b1, b2⟩ := w U' rfl X'
    exact ⟨tt, hstep₁ _ (fun acts => by rw [doInvoke_state]; exact hsteps.trans b1), b2⟩
  · dsimp only [Pt.U, Pt.locs, Pt.cells, Pt.slots] at X' e1 e2 q1 q2 q3 hsteps
    subst q1; subst q2; subst q3
    subst ho
    have hp' : HpA s U'.heap G' := by
      rw [e1]
      refine hHp.moved ?_
      rw [← e2]
      exact X'.warmed.alike.symm
    have w := exc_go (rest := st') hown htb hT hlk hk htx hbq h1 hp' (h3.gk gK1) (locs := locs ++ L) (fun z hz => by
      rw [gB_gK gK1]
      rcases List.mem_append.mp hz with y1 | y1
      · exact h4 z y1
      · exact hL z y1) (Nat.le_trans h5 gX1) (Nat.le_trans h6 gS1)
    have a1 : gX G' - x0 = gX G - x0 + (gX G' - gX G) := by omega
    have a2 : gS G' - s0 = gS G - s0 + (gS G' - gS G) := by omega
    rw [a1, a2] at w
    obtain ⟨tt, b1, b2⟩ := w U' rfl X'
    exact ⟨tt, hstep₁ _ (fun acts => by rw [doInvoke_state]; exact hsteps.trans b1), b2⟩
end KLE

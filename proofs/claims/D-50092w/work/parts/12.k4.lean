/-! what each instruction owes: new objects, arrays of references, casts, constants, small calls -/
theorem fc_get {vm : Vm} {C : String} {c : ClassId} (h : vm.findClass C = some c) : ∃ k : Class, vm.classes[c]? = some k := by
  unfold Vm.findClass at h
  obtain ⟨hl, -⟩ := Array.findIdx?_eq_some_iff_getElem.mp h
  exact ⟨_, Array.getElem?_eq_getElem hl⟩
def okTy (ty : FieldType) : Bool := match ty with
  | .float => false
  | .double => false
  | _ => true
theorem nw_T {G : Hp} {t n : Nat} : gT (nw G t n) (gX G) = t := if_pos rfl
theorem nw_N {G : Hp} {t n : Nat} : gN (nw G t n) (gX G) = n := if_pos rfl
theorem nw_I {G : Hp} {t n k : Nat} : gI (nw G t n) (gX G) k = 0 := by show upr _ _ _ _ _ = _; unfold upr; rw [if_pos rfl]
theorem nw_J {G : Hp} {t n k : Nat} : gJ (nw G t n) (gX G) k = 0 := by show upr _ _ _ _ _ = _; unfold upr; rw [if_pos rfl]
theorem nw_R {G : Hp} {t n k : Nat} : gR (nw G t n) (gX G) k = none := by show upr _ _ _ _ _ = _; unfold upr; rw [if_pos rfl]
theorem fval_nw {G : Hp} {t n k : Nat} {ty : FieldType} (h : okTy ty = true) : fval (nw G t n) (gX G) k ty = defaultValue ty := by
  cases ty <;> first | exact congrArg Value.int nw_I | exact congrArg Value.long nw_J | exact congrArg va_rf nw_R | cases h
/-- what the tables say of a class that is made -/
def NP (s : State) (args : Array Value) (t n : Nat) : Prop := tcl t = true ∧ (Cond.instantiable (cNm t) n).before args s = true ∧ (Cond.initialized (cNm t)).before args s = true ∧
  ∀ k, k < cL t → parseFieldDescriptor (cT t k).2.2.1 = some (cTy t k) ∧ okTy (cTy t k) = true ∧ ((Cond.lays (cNm t) (cT t k).1 (cT t k).2.1 (cT t k).2.2.1).before args s = true ∨ (Cond.laysFinal (cNm t) (cT t k).1 (cT t k).2.1 (cT t k).2.2.1).before args s = true)
/-- what the tables say of objects of tag u in arrays of tag t -/
def AP (s : State) (ok : Nat → Nat → Bool) : Prop := ∀ t u, 110 ≤ t → ok t u = true → ∃ C, aTy t = .object C ∧ ((tlm u = true ∧ C = lmIf u) ∨ (tlm u = false ∧ ∃ D, (tcl u = true → D = cNm u) ∧ (tar u = true → D = "[" ++ (aTy u).toString) ∧ (D = C ∨ va_Nw (.castable D C) s)))
theorem HpA.any {s : State} {H : Heap} {G : Hp} {a : Nat} {D : String} (h : HpA s H G) (ht : gT G a ≠ 0) (hl : tlm (gT G a) = false) (h1 : tcl (gT G a) = true → D = cNm (gT G a)) (h2 : tar (gT G a) = true → D = "[" ++ (aTy (gT G a)).toString) : ∃ cell : Cell, H[a]? = some cell ∧ cell.vm.isStatics = false ∧ s.vm.findClass D = some cell.cls := by
  rcases h.tag ht with q | q | q
  rotate_left 2
  · rw [hl] at q; cases q
  · rw [h1 q]; exact h.obj q
  · obtain ⟨cell, k, comp, e1, e2, e3, e4, e5, e6, e7, e8⟩ := h.arr q
    rw [h2 q]
    exact ⟨cell, e1, e2, e7⟩
theorem HpA.lam {s : State} {H : Heap} {G : Hp} {a : Nat} (h : HpA s H G) (ht : tlm (gT G a) = true) : ∃ cell : Cell, H[a]? = some cell ∧ cell.vm.isStatics = false ∧ cell.cls = gA G (200 + gT G a) := by
  obtain ⟨-, -, ⟨D, cA, hK, hc⟩, -, -⟩ := h
  rcases hc a with q | ⟨cell, q1, q2, q3, q4, ⟨q, -⟩ | ⟨q, -⟩ | ⟨-, q6, -⟩⟩
  · rw [q] at ht; exact absurd ht tlm_0
  · exact (tcl_tlm q ht).elim
  · exact (tar_tlm q ht).elim
  · exact ⟨cell, q1, q2, q6⟩
theorem lamF.asg {s : State} {t : Nat} {c : ClassId} (ht : tlm t = true) (h : lamF s t c) : ∃ k, s.vm.classes[c]? = some k ∧ ∃ i, s.vm.findClass (lmIf t) = some i ∧ s.vm.assignable c i = true := by
  obtain ⟨d, dk, hd, hdk, hdn, hm, hca⟩ := h
  have hsh := lm_shape ht
  simp only [lmShape, Bool.and_eq_true, decide_eq_true_eq] at hsh
  obtain ⟨⟨⟨⟨⟨⟨⟨s1, -⟩, -⟩, -⟩, -⟩, -⟩, -⟩, -⟩ := hsh
  obtain ⟨dk9, k, ok, tk, file, cf, object, iface, tc, lay, methods, target, found, m1, m2, -⟩ := Lambda.isMade_spec hm
  obtain ⟨i, hi, ha, -⟩ := State.lambdaCallable_spec hca
  exact ⟨k, m2, i, by rw [← s1]; exact hi, ha⟩
theorem AP.val {s : State} {ok : Nat → Nat → Bool} {H : Heap} {G : Hp} {t b : Nat} {C : String} {comp : ClassId} (hap : AP s ok) (hok : ∀ t u, ok t u = true → u ≠ 0) (e2 : HpA s H G) (e3 : strK s G) (h1 : 110 ≤ t) (h4 : ok t (gT G b) = true) (hC : aTy t = .object C) (hcomp : s.vm.findClass C = some comp) :
    ∃ (cv : Cell) (kv : Class), H[b]? = some cv ∧ cv.vm.isStatics = false ∧ s.vm.classes[cv.cls]? = some kv ∧ s.vm.assignable cv.cls comp = true := by
  obtain ⟨C', c1, c2⟩ := hap _ _ h1 h4
  rw [hC] at c1
  cases c1
  rcases c2 with ⟨c2, c3⟩ | ⟨c0, D, c2, c3, c4⟩
  · have hl := (e3.2 _ c2).1
    obtain ⟨cv, b1, b2, b3⟩ := e2.lam c2
    obtain ⟨k, hk, i, hi, ha⟩ := hl.asg c2
    rw [← c3] at hi
    cases hi.symm.trans hcomp
    exact ⟨cv, k, b1, b2, by rw [b3]; exact hk, by rw [b3]; exact ha⟩
  · obtain ⟨cv, b1, b2, b3⟩ := e2.any (hok _ _ h4) c0 c2 c3
    obtain ⟨kv, hkv⟩ := fc_get b3
    refine ⟨cv, kv, b1, b2, hkv, ?_⟩
    rcases c4 with rfl | c4
    · cases b3.symm.trans hcomp
      exact va_asg _ _
    · obtain ⟨x1, x2, y1, y2, y3⟩ := Cond.castable_spec (va_Nw.use (A := #[]) rfl c4)
      cases y1.symm.trans b3
      cases y2.symm.trans hcomp
      exact y3
section KSH
variable {p : Program} {l : Launch} {e : Env} {R : Room} {s : State} {m : MethodId} {args : Array Value} {below : List Frame} {meth : Method} {c : Code} {Q : State → Prop} {x0 s0 : Nat}
variable {met : Nat → Nat → List Value → Hp → Out → Hp → Prop} {hd : Nat → Option Nat} {d : Nat} {G : Hp} {pc : Nat} {ls st : List Value} {cc : ByteArray}
theorem k_new {t n index : Nat} {own : String} (hnp : NP s args t n) (hcl : (Cond.classLink own index (cNm t)).before args s = true) (hown : s.vm.findClass own = some m.cls) (hx : p.tables.exec = Jvm.exec) (hb : c.code = cc) (hg : decode cc pc = .ok (.new index, 3)) :
    CmdK p l e R s m args below meth c Q x0 s0 met hd d G pc ls st (pNew t n (pc + 3) ls st G) := by
  obtain ⟨h1, h2, h3, h4⟩ := hnp
  intro g1 g2 g3 kk lsA H locs e1 e2 e3 e4 e5 e6
  have e20 := e2
  obtain ⟨d1, d2, ⟨D, cA, hKK, hcc⟩, d5, d6⟩ := e2
  have g2' : gX G + 1 - x0 ≤ R.cells := g2
  have g3' : gS G + n - s0 ≤ R.slots := g3
  refine W.newcK hx hb hown hcl h2 h3 rfl hg (by omega) (by omega) (hKK.1 t h1).2.1 rfl fun H' kC q1 q2 q3 q4 => ?_
  have w := kk lsA H' locs e1 (e20.new (t := t) (n := n) q3 q4 (fun D2 cA2 hK2 => by
    refine Or.inr ⟨_, by rw [d1]; exact q2, rfl, (by intro z; cases z), fun _ => rfl, Or.inl ⟨by rw [nw_T]; exact h1, ?_, fun k hk => ?_⟩⟩
    · rw [nw_T]
      exact Option.some.inj ((hKK.1 t h1).2.1.symm.trans (hK2.1 t h1).2.1)
    · rw [nw_T] at hk ⊢
      obtain ⟨f1, f2, f3⟩ := h4 k hk
      obtain ⟨cf, kf, fi, fd, hi, hsl, hst⟩ := (hK2.1 t h1).1 k hk
      have h9 := (u_facts (hKK.1 t h1).2.1 q1 f3 hi).2.2
      rw [(State.fieldFound?_type hi f1).2] at h9
      rw [← hsl, fval_nw f2]
      exact k2_blank h9)) (e3.gk rfl) e4 (Nat.le_succ_of_le e5) (Nat.le_trans e6 (Nat.le_add_right _ _))
  have a1 : gX (nw G t n) - x0 = gX G - x0 + 1 := by show gX G + 1 - x0 = _; omega
  have a2 : gS (nw G t n) - s0 = gS G - s0 + n := by show gS G + n - s0 = _; omega
  rw [← d1] 
  rw [a1, a2] at w
  exact w
theorem aval_nw {G : Hp} {t n j : Nat} (ht : tar t = true) : aval (nw G t n) (gX G) j t = defaultValue (aTy t) := by
  have hh : t = 100 ∨ t = 101 ∨ t = 102 ∨ t = 103 ∨ t = 110 ∨ t = 111 ∨ t = 112 ∨ t = 113 := by
    simp only [tar, Bool.and_eq_true, Bool.or_eq_true, decide_eq_true_eq] at ht
    omega
  rcases hh with rfl | rfl | rfl | rfl | rfl | rfl | rfl | rfl <;> (simp only [aval, nw_I, nw_J, nw_R]; rfl)
theorem HpA.newa {s : State} {H : Heap} {G : Hp} {t n : Nat} {cA : ClassId} (h : HpA s H G) (ht : tar t = true) (hc : s.vm.findClass ("[" ++ (aTy t).toString) = some cA) : HpA s (H.push { cls := cA, slots := Array.replicate n (defaultValue (aTy t)), vm := .none }) (nw G t n) := by
  have d1 := h.1
  refine h.new (by rw [Array.size_push]) (fun q hq => by rw [Array.getElem?_push, if_neg (Nat.ne_of_lt hq)]) (fun D2 cA2 hK2 => ?_)
  refine Or.inr ⟨{ cls := cA, slots := Array.replicate n (defaultValue (aTy t)), vm := .none }, by rw [d1, Array.getElem?_push_size], rfl, (by intro z; cases z), fun _ => rfl, Or.inr (Or.inl ⟨by rw [nw_T]; exact ht, ?_, ?_, fun j hj => ?_⟩)⟩
  · rw [nw_T]
    exact Option.some.inj (hc.symm.trans (hK2.2 t ht).1)
  · rw [nw_N]; simp
  · rw [nw_N] at hj
    rw [nw_T, aval_nw ht]
    simp [hj]
theorem k_newa {t : Nat} {atype : ArrayType} (ht : tar t = true) (hty : newarray.typeOf atype = aTy t) (hcb : componentBytes (aTy t) ≤ 8) (harr : (Cond.arrayClass (aTy t)).before args s = true) (hx : p.tables.exec = Jvm.exec) (hb : c.code = cc) (hg : decode cc pc = .ok (.newarray atype, 2)) :
    CmdK p l e R s m args below meth c Q x0 s0 met hd d G pc ls st (pNewa t (pc + 2) ls st G) := by
  unfold pNewa
  split
  · rename_i n st9
    refine k_if (fun h0 => ?_) (fun _ => k_no)
    simp only [Bool.and_eq_true, decide_eq_true_eq] at h0
    obtain ⟨hn, hk⟩ := h0
    generalize hN : n.toNatClampNeg = N at hk
    intro g1 g2 g3 kk lsA H locs e1 e2 e3 e4 e5 e6
    have g2' : gX G + 1 - x0 ≤ R.cells := g2
    have g3' : gS G + N - s0 ≤ R.slots := g3
    have hm : N * componentBytes (aTy t) ≤ 100000 * 8 := Nat.mul_le_mul hk hcb
    refine W.newa hx hb (by rw [hty]; exact harr) rfl hg rfl hn (by rw [hN, hty]; omega) (by omega) (by rw [hN]; omega) fun cA kA comp q1 q2 q3 => ?_
    rw [hty] at q1 q3 ⊢
    have w := kk lsA _ locs e1 (e2.newa (n := N) ht q1) (e3.gk rfl) e4 (Nat.le_succ_of_le e5) (Nat.le_trans e6 (Nat.le_add_right _ _))
    have a1 : gX (nw G t N) - x0 = gX G - x0 + 1 := by show gX G + 1 - x0 = _; omega
    have a2 : gS (nw G t N) - s0 = gS G - s0 + N := by show gS G + N - s0 = _; omega
    rw [a1, a2] at w
    rw [hN, ← e2.1]
    exact w
  · exact k_no
theorem k_anew {t index : Nat} {own C : String} (ht : tar t = true) (hty : aTy t = .object C) (hcl : (Cond.classLink own index C).before args s = true) (hao : va_AO C s) (hown : s.vm.findClass own = some m.cls) (hx : p.tables.exec = Jvm.exec) (hb : c.code = cc) (hg : decode cc pc = .ok (.anewarray index, 3)) :
    CmdK p l e R s m args below meth c Q x0 s0 met hd d G pc ls st (pNewa t (pc + 3) ls st G) := by
  unfold pNewa
  split
  · rename_i n st9
    refine k_if (fun h0 => ?_) (fun _ => k_no)
    simp only [Bool.and_eq_true, decide_eq_true_eq] at h0
    obtain ⟨hn, hk⟩ := h0
    generalize hN : n.toNatClampNeg = N at hk
    intro g1 g2 g3 kk lsA H locs e1 e2 e3 e4 e5 e6
    have g2' : gX G + 1 - x0 ≤ R.cells := g2
    have g3' : gS G + N - s0 ≤ R.slots := g3
    refine W.anew hx hb hown hcl (va_AO.use hao) rfl hg rfl hn (by rw [hN]; omega) (by omega) (by rw [hN]; omega) fun cA kA comp q1 q2 q3 q4 => ?_
    rw [← hty] at q1
    have w := kk lsA _ locs e1 (e2.newa (n := N) ht q1) (e3.gk rfl) e4 (Nat.le_succ_of_le e5) (Nat.le_trans e6 (Nat.le_add_right _ _))
    have a1 : gX (nw G t N) - x0 = gX G - x0 + 1 := by show gX G + 1 - x0 = _; omega
    have a2 : gS (nw G t N) - s0 = gS G - s0 + N := by show gS G + N - s0 = _; omega
    rw [a1, a2, hty] at w
    rw [hN, ← e2.1]
    exact w
  · exact k_no
theorem k_aast {ok : Nat → Nat → Bool} (hap : AP s ok) (hok : ∀ t u, ok t u = true → u ≠ 0) (hx : p.tables.exec = Jvm.exec) (hb : c.code = cc) (hg : decode cc pc = .ok (.aastore, 1)) :
    CmdK p l e R s m args below meth c Q x0 s0 met hd d G pc ls st (pAast ok (pc + 1) ls st G) := by
  have put : ∀ {a : Nat} {i : Int32} {r : Option Nat} {st9 : List Value} {lsA : Array Slot} {H : Heap} {locs : List Loc} {cell : Cell}, HpA s H G → 110 ≤ gT G a → inb i (gN G a) = true → gB G ≤ a → H[a]? = some cell → ∀ H' : Heap, H'[a]? = some (cell.setSlot i.toNatClampNeg (va_rf r)) → H'.size = H.size → (∀ q, q ≠ a → H'[q]? = H[q]?) → HpA s H' (sR G a i.toNatClampNeg r) := by
    intro a i r st9 lsA H locs cell h h1 h2 h3 h4 H' f1 f2 f3
    refine h.put (a := a) rfl rfl rfl rfl (fun q j z => rfl) (fun q j z => rfl) (fun q j z => up2_ne (fun w => z w.1)) f2 f3 h3 ?_
    intro D2 cA2 hK2 hc2
    rcases hc2 with h0 | ⟨cell2, r1, r2, r3, r4, ⟨ra, rcls, rfs⟩ | ⟨hta, rb, rc, rd⟩ | ⟨ra, -⟩⟩
    · omega
    · exfalso
      simp only [tcl, Bool.and_eq_true, decide_eq_true_eq] at ra
      omega
    · cases h4.symm.trans r1
      refine Or.inr ⟨_, f1, r2, r3, r4, Or.inr (Or.inl ⟨hta, rb, ?_, fun j hj => ?_⟩)⟩
      · show (cell.slots.setIfInBounds _ _).size = _
        rw [Array.size_setIfInBounds]
        exact rc
      · rw [setSlot_at (rd j hj)]
        show _ = some (aval (sR G a i.toNatClampNeg r) a j (gT G a))
        unfold aval
        rw [if_pos h1, if_pos h1]
        by_cases ej : j = i.toNatClampNeg
        · rw [if_pos ej, ej]
          exact congrArg (fun x => some (va_rf x)) up2_eq.symm
        · rw [if_neg ej]
          exact congrArg (fun x => some (va_rf x)) (up2_ne (fun z => ej z.2)).symm
    · exfalso
      simp only [tlm, Bool.and_eq_true, decide_eq_true_eq] at ra
      omega
  unfold pAast
  split
  · rename_i b i a st9
    refine k_if (fun h0 => ?_) (fun _ => k_no)
    simp only [Bool.and_eq_true, decide_eq_true_eq] at h0
    obtain ⟨⟨⟨h1, h2⟩, h3⟩, h4⟩ := h0
    intro g1 g2 g3 kk lsA H locs e1 e2 e3 e4 e5 e6
    have hta : tar (gT G a) = true := e2.tag100 (by omega)
    obtain ⟨cell, k, comp, a1, a2, a3, a4, a5, a6, a7, a8, a9, a10⟩ := e2.arr hta
    obtain ⟨C, c1, -⟩ := hap _ _ h1 h4
    rw [c1] at a10
    have hin := inb_iff.mp h2
    have hcomp : s.vm.findClass C = some comp := a10
    obtain ⟨kcomp, hkc⟩ := fc_get hcomp
    obtain ⟨cv, kv, b1, b2, hkv, has⟩ := AP.val hap hok e2 e3 h1 h4 c1 hcomp
    refine W.aast hx hb a1 (fun z w => by rw [w] at a2; cases a2) a3 a8 (by rw [a9, c1]) rfl hkc (by rw [a5]; exact ⟨fun z => hin (Or.inl z), Nat.not_le.mp fun z => hin (Or.inr z)⟩) b1 (fun z w => by rw [w] at b2; cases b2) hkv has rfl rfl hg fun H' f1 f2 f3 => ?_
    exact kk lsA H' _ e1 (put (st9 := st9) (lsA := lsA) (locs := locs) e2 h1 h2 h3 a1 H' f1 f2 f3) (e3.gk rfl) (fun q hq => by
      rcases List.mem_append.mp hq with z | z
      · exact e4 q z
      · rw [List.mem_singleton.mp z]; exact h3) e5 e6
  · rename_i i a st9
    refine k_if (fun h0 => ?_) (fun _ => k_no)
    simp only [Bool.and_eq_true, decide_eq_true_eq] at h0
    obtain ⟨⟨h1, h2⟩, h3⟩ := h0
    intro g1 g2 g3 kk lsA H locs e1 e2 e3 e4 e5 e6
    have hta : tar (gT G a) = true := e2.tag100 (by omega)
    obtain ⟨cell, k, comp, a1, a2, a3, a4, a5, a6, a7, a8, a9, a10⟩ := e2.arr hta
    have hC : ∃ C, aTy (gT G a) = .object C := by
      have : gT G a = 110 ∨ gT G a = 111 ∨ gT G a = 112 ∨ gT G a = 113 := by
        simp only [tar, Bool.and_eq_true, Bool.or_eq_true, decide_eq_true_eq] at hta
        omega
      rcases this with q | q | q | q <;> rw [q] <;> exact ⟨_, rfl⟩
    obtain ⟨C, c1⟩ := hC
    have hin := inb_iff.mp h2
    refine va_WaastN (C := C) hx hb a1 (by rw [← c1]; exact a4) a3 (by rw [a5]; exact hin) rfl rfl hg fun H' f1 f2 f3 => ?_
    exact kk lsA H' _ e1 (put (st9 := st9) (lsA := lsA) (locs := locs) (r := none) e2 h1 h2 h3 a1 H' f1 f2 f3) (e3.gk rfl) (fun q hq => by
      rcases List.mem_append.mp hq with z | z
      · exact e4 q z
      · rw [List.mem_singleton.mp z]; exact h3) e5 e6
  · exact k_no
/-- the castable tags -/
def CP (s : State) (nm : String) (ts : List Nat) : Prop := ∀ t ∈ ts, (t ≠ 0 ∧ tlm t = false) ∧ ∃ D, (tcl t = true → D = cNm t) ∧ (tar t = true → D = "[" ++ (aTy t).toString) ∧ (D = nm ∨ va_Nw (.castable D nm) s)
theorem k_cast {ts : List Nat} {own nm : String} {index : Nat} (hcp : CP s nm ts) (hcl : (Cond.classLink own index nm).before args s = true) (hown : s.vm.findClass own = some m.cls) (hx : p.tables.exec = Jvm.exec) (hb : c.code = cc) (hg : decode cc pc = .ok (.checkcast index, 3)) :
    CmdK p l e R s m args below meth c Q x0 s0 met hd d G pc ls st (pCast ts (pc + 3) ls st G) := by
  unfold pCast
  split
  · exact k_same fun lsA H locs ce sl hl k => lv_castN hx hb hg k
  · rename_i a st9
    refine k_if (fun h0 => ?_) (fun _ => k_no)
    obtain ⟨h1, D, h2, h3, h4⟩ := hcp _ (List.contains_iff_mem.mp h0)
    intro g1 g2 g3 kk lsA H locs e1 e2 e3 e4 e5 e6
    have hr := e2.any h1.1 h1.2 h2 h3
    rcases h4 with rfl | h4
    · exact va_castE hx hb hown hcl hr hg (kk lsA H locs e1 e2 e3 e4 e5 e6)
    · exact va_castY hx hb hown hcl h4 hr hg (kk lsA H locs e1 e2 e3 e4 e5 e6)
  · exact k_no
def CN (s : State) (nm : String) (ts : List Nat) : Prop := ∀ t ∈ ts, (t ≠ 0 ∧ tlm t = false) ∧ ∃ D, (tcl t = true → D = cNm t) ∧ (tar t = true → D = "[" ++ (aTy t).toString) ∧ va_Nc D nm s
theorem k_inst {ts ns : List Nat} {own nm : String} {index : Nat} (hcp : CP s nm ts) (hcn : CN s nm ns) (hcl : (Cond.classLink own index nm).before args s = true) (hown : s.vm.findClass own = some m.cls) (hx : p.tables.exec = Jvm.exec) (hb : c.code = cc) (hg : decode cc pc = .ok (.instanceof index, 3)) :
    CmdK p l e R s m args below meth c Q x0 s0 met hd d G pc ls st (pInst ts ns (pc + 3) ls st G) := by
  unfold pInst
  split
  · exact k_same fun lsA H locs ce sl hl k => lv_instN hx hb hg k
  · rename_i a st9
    refine k_if (fun h0 => ?_) (fun _ => k_if (fun h0 => ?_) (fun _ => k_no))
    · obtain ⟨h1, D, h2, h3, h4⟩ := hcp _ (List.contains_iff_mem.mp h0)
      intro g1 g2 g3 kk lsA H locs e1 e2 e3 e4 e5 e6
      have hr := e2.any h1.1 h1.2 h2 h3
      rcases h4 with rfl | h4
      · exact va_instE hx hb hown hcl hr hg (kk lsA H locs e1 e2 e3 e4 e5 e6)
      · exact va_instY hx hb hown hcl h4 hr hg (kk lsA H locs e1 e2 e3 e4 e5 e6)
    · obtain ⟨h1, D, h2, h3, h4⟩ := hcn _ (List.contains_iff_mem.mp h0)
      intro g1 g2 g3 kk lsA H locs e1 e2 e3 e4 e5 e6
      exact va_instNo hx hb hown hcl h4 (e2.any h1.1 h1.2 h2 h3) hg (kk lsA H locs e1 e2 e3 e4 e5 e6)
  · exact k_no
/-- static fields that nobody writes; constants of type String -/
theorem k_sgets {own ref name desc : String} {index : Nat} {v : Value} {C : String} (hlink : (Cond.fieldLink own index ref name desc).before args s = true ∨ ∃ host, (Cond.fieldLinkNest own index ref name desc host).before args s = true) (hsame : ∀ x, s.fieldFound? C name desc = some x → s.fieldFound? ref name desc = some x)
    (hz : ∀ H, statK s H G → va_Z C name desc v (Abv G) s H) (hown : s.vm.findClass own = some m.cls) (hx : p.tables.exec = Jvm.exec) (hb : c.code = cc) (hg : decode cc pc = .ok (.getstatic index, 3)) :
    CmdK p l e R s m args below meth c Q x0 s0 met hd d G pc ls st (cJ (pc + 3) ls (v :: st) G) := by
  intro g1 g2 g3 kk lsA H locs e1 e2 e3 e4 e5 e6
  obtain ⟨cf, kf, fi, f, a, cell, z1, z2, z3, z4, z5, z6, z7, z8⟩ := hz H e2.2.2.2.2
  rcases hlink with hl | ⟨host, hl⟩
  · exact W.gets hx hb hown hl (hsame _ z1) z2 z3 z4 z5 (fun w => by rw [w] at z6; cases z6) z7 rfl hg (kk lsA H locs e1 e2 e3 e4 e5 e6)
  · exact va_WgetsN hx hb hown hl (hsame _ z1) z2 z3 z4 z5 (fun w => by rw [w] at z6; cases z6) z7 rfl hg (kk lsA H locs e1 e2 e3 e4 e5 e6)
theorem k_gref {own ref : String} {index : Nat} {q : Nat × String × String × String} (hq : q ∈ sRef) (hlink : (Cond.fieldLink own index ref q.2.2.1 q.2.2.2).before args s = true ∨ ∃ host, (Cond.fieldLinkNest own index ref q.2.2.1 q.2.2.2 host).before args s = true) (hsame : ∀ x, s.fieldFound? q.2.1 q.2.2.1 q.2.2.2 = some x → s.fieldFound? ref q.2.2.1 q.2.2.2 = some x) (hown : s.vm.findClass own = some m.cls) (hx : p.tables.exec = Jvm.exec) (hb : c.code = cc) (hg : decode cc pc = .ok (.getstatic index, 3)) :
    CmdK p l e R s m args below meth c Q x0 s0 met hd d G pc ls st (pSt q.1 (pc + 3) ls st G) := k_sgets (st := st) hlink hsame (fun H h => h.1 q hq) hown hx hb hg
theorem k_gint {own ref : String} {index : Nat} {q : String × String × String × Int32} (hq : q ∈ sInt) (hlink : (Cond.fieldLink own index ref q.2.1 q.2.2.1).before args s = true ∨ ∃ host, (Cond.fieldLinkNest own index ref q.2.1 q.2.2.1 host).before args s = true) (hsame : ∀ x, s.fieldFound? q.1 q.2.1 q.2.2.1 = some x → s.fieldFound? ref q.2.1 q.2.2.1 = some x) (hown : s.vm.findClass own = some m.cls) (hx : p.tables.exec = Jvm.exec) (hb : c.code = cc) (hg : decode cc pc = .ok (.getstatic index, 3)) :
    CmdK p l e R s m args below meth c Q x0 s0 met hd d G pc ls st (pK (.int q.2.2.2) (pc + 3) ls st G) := k_sgets (st := st) hlink hsame (fun H h => h.2.1 q hq) hown hx hb hg
theorem k_ldcS {q : Nat × String × Nat × String} (hq : q ∈ sStr) (hown : s.vm.findClass q.2.1 = some m.cls) (hx : p.tables.exec = Jvm.exec) (hb : c.code = cc) (hg : decode cc pc = .ok (.ldc q.2.2.1, 2)) :
    CmdK p l e R s m args below meth c Q x0 s0 met hd d G pc ls st (pSt q.1 (pc + 2) ls st G) := by
  intro g1 g2 g3 kk lsA H locs e1 e2 e3 e4 e5 e6
  exact va_ldcS hx hb hown (e3.1.1 q hq) hg (kk lsA H locs e1 e2 e3 e4 e5 e6)
theorem ldcwString {T : State} {H : Heap} {locs : List Loc} {cells slots : Nat} (X : Stand p l e R s m args below meth c T locs cells slots) (hexec : p.tables.exec = Jvm.exec) {own text : String} {index : Nat} {a : Addr} (hown : s.vm.findClass own = some m.cls)
    (hconst : (Cond.stringRef own index text).before args s = true) (hev : (Term.string own index).eval args s none [] s = some (.ref a)) {g : JFrame} (hg : g.method = m) (hdg : decode c.code g.pc = .ok (.ldc_w index, 3)) :
    ∀ target, Steps p.tables e below (T.setTop { g with pc := g.pc + 3, stack := .ref a :: g.stack }) target → Steps p.tables e below (T.setTop g) target := by
  obtain ⟨k, cf, i, a', hk, hcf, hcp, -, hr, hev'⟩ := Cond.stringRef_spec hown hconst
  cases hev.symm.trans hev'
  obtain ⟨k', hk', he⟩ := X.warmed.alike.2.2 _ _ hk
  have hr' : k'.resolved[index]? = some (some (.string a)) := by
    rcases X.warmed.entry hk hk' index with h | ⟨h, -⟩
    · rw [h]; exact hr
    · rw [hr] at h; cases h
  intro target hrest
  subst hg
  jvm_step X.here [hexec, hdg, ldc_w.wp_string (e := e) (s := T) (f := g) X.here.top hk' (by rw [he]; exact hcf) hcp hr']
  exact hrest
theorem k_ldcwS {q : Nat × String × Nat × String} (hq : q ∈ sStr) (hown : s.vm.findClass q.2.1 = some m.cls) (hx : p.tables.exec = Jvm.exec) (hb : c.code = cc) (hg : decode cc pc = .ok (.ldc_w q.2.2.1, 3)) :
    CmdK p l e R s m args below meth c Q x0 s0 met hd d G pc ls st (pSt q.1 (pc + 3) ls st G) := by
  intro g1 g2 g3 kk lsA H locs e1 e2 e3 e4 e5 e6 T hT X
  obtain ⟨t, a1, b1⟩ := kk lsA H locs e1 e2 e3 e4 e5 e6 T hT X
  have hZ := e3.1.1 q hq
  exact ⟨t, ldcwString (H := H) X hx hown (text := q.2.2.2) (a := gA G q.1) hZ.1 hZ.2 (g := F0 m pc lsA st) rfl (by rw [hb]; exact hg) t a1, b1⟩
end KSH

/-! what each instruction owes: field writes, arrays, new objects, casts, constants, small calls -/
theorem HpA.tag {s : State} {H : Heap} {G : Hp} {a : Nat} (h : HpA s H G) (h0 : gT G a ≠ 0) : tcl (gT G a) = true ∨ tar (gT G a) = true ∨ tlm (gT G a) = true := by
  obtain ⟨-, -, ⟨D, cA, hK, hc⟩, -, -⟩ := h
  rcases hc a with q | ⟨cell, -, -, -, -, ⟨q, -⟩ | ⟨q, -⟩ | ⟨q, -⟩⟩
  · exact absurd q h0
  · exact Or.inl q
  · exact Or.inr (Or.inl q)
  · exact Or.inr (Or.inr q)
theorem HpA.tag100 {s : State} {H : Heap} {G : Hp} {a : Nat} (h : HpA s H G) (h0 : 100 ≤ gT G a) : tar (gT G a) = true := by
  rcases h.tag (a := a) (by omega) with q | q | q
  · simp only [tcl, Bool.and_eq_true, decide_eq_true_eq] at q; omega
  · exact q
  · simp only [tlm, Bool.and_eq_true, decide_eq_true_eq] at q; omega
theorem HpA.arr {s : State} {H : Heap} {G : Hp} {a : Nat} (h : HpA s H G) (ht : tar (gT G a) = true) : ∃ (cell : Cell) (k : Class) (comp : ClassId), H[a]? = some cell ∧ cell.vm.isStatics = false ∧ cell.vm ≠ .unknown ∧ s.isArrayOf cell (aTy (gT G a)) ∧ cell.slots.size = gN G a ∧ (∀ j, j < gN G a → cell.slots[j]? = some (aval G a j (gT G a))) ∧ s.vm.findClass ("[" ++ (aTy (gT G a)).toString) = some cell.cls ∧ s.vm.classes[cell.cls]? = some k ∧ k.kind = .array comp (aTy (gT G a)) ∧ (match aTy (gT G a) with | .object C => s.vm.findClass C = some comp | _ => True) := by
  obtain ⟨-, -, ⟨D, cA, hK, hc⟩, -, -⟩ := h
  rcases hc a with q | ⟨cell, q1, q2, q3, q4, ⟨q, -⟩ | ⟨-, q6, q7, q8⟩ | ⟨q, -⟩⟩
  · rw [q] at ht; exact absurd ht tar_0
  · exact (tcl_tar q ht).elim
  · obtain ⟨f1, k, comp, f2, f3, f4⟩ := hK.2 _ ht
    rw [← q6] at f1 f2
    exact ⟨cell, k, comp, q1, q2, q3, ⟨fun z e => (by rw [e] at q2; cases q2), k, f2, comp, f3⟩, q7, q8, f1, f2, f3, f4⟩
  · exact (tar_tlm ht q).elim
theorem HpA.obj {s : State} {H : Heap} {G : Hp} {a : Nat} (h : HpA s H G) (ht : tcl (gT G a) = true) : ∃ cell : Cell, H[a]? = some cell ∧ cell.vm.isStatics = false ∧ s.vm.findClass (cNm (gT G a)) = some cell.cls := by
  obtain ⟨-, -, ⟨D, cA, hK, hc⟩, -, -⟩ := h
  rcases hc a with q | ⟨cell, q1, q2, q3, q4, ⟨-, q6, -⟩ | ⟨q, -⟩ | ⟨q, -⟩⟩
  · rw [q] at ht; exact absurd ht tcl_0
  · exact ⟨cell, q1, q2, by rw [q6]; exact (hK.1 _ ht).2.1⟩
  · exact (tcl_tar ht q).elim
  · exact (tcl_tlm ht q).elim
theorem okZ_fit {x : Int32} (h : okZ x = true) : narrow .boolean (.int x) = .int x ∧ fits .boolean (.int x) = true := by
  have h1 : x &&& 1 = x := of_decide_eq_true h
  refine ⟨congrArg Value.int h1, ?_⟩
  have h2 : ∃ j : Nat, j < 2 ^ 1 ∧ x &&& 1 = nI j := pk_andE x 1 (by decide)
  obtain ⟨j, hj, e⟩ := h2
  rw [h1] at e
  subst e
  rcases (show j = 0 ∨ j = 1 by omega) with rfl | rfl <;> decide
theorem okB_fit {x : Int32} (h : okB x = true) : narrow .byte (.int x) = .int x ∧ fits .byte (.int x) = true := by
  have h1 : x.toInt8.toInt32 = x := of_decide_eq_true h
  refine ⟨congrArg Value.int h1, ?_⟩
  rw [← h1]
  exact pk_fb x
theorem okI_fit {x : Int32} : narrow .int (.int x) = .int x ∧ fits .int (.int x) = true := ⟨rfl, rfl⟩
theorem okJ_fit {x : Int64} : narrow .long (.long x) = .long x ∧ fits .long (.long x) = true := ⟨rfl, rfl⟩
theorem okR_fit {v : Value} {C : String} (h : rf v = true) : narrow (.object C) v = v ∧ fits (.object C) v = true := by cases v <;> first | exact ⟨rfl, rfl⟩ | cases h
theorem okA_fit {v : Value} {T : FieldType} (h : rf v = true) : narrow (.array T) v = v ∧ fits (.array T) v = true := by cases v <;> first | exact ⟨rfl, rfl⟩ | cases h
theorem setSlot_at {cell : Cell} {i j : Nat} {v w : Value} (hw : cell.slots[j]? = some w) : (cell.setSlot i v).slots[j]? = some (if j = i then v else w) := by
  show (cell.slots.setIfInBounds i v)[j]? = _
  by_cases e : j = i
  · subst e
    rw [if_pos rfl, Array.getElem?_setIfInBounds_self_of_lt (Array.getElem?_eq_some_iff.mp hw).1]
  · rw [if_neg e, Array.getElem?_setIfInBounds_ne (Ne.symm e)]
    exact hw
section KSF
variable {p : Program} {l : Launch} {e : Env} {R : Room} {s : State} {m : MethodId} {args : Array Value} {below : List Frame} {meth : Method} {c : Code} {Q : State → Prop} {x0 s0 : Nat}
variable {met : Nat → Nat → List Value → Hp → Out → Hp → Prop} {hd : Nat → Option Nat} {d : Nat} {G : Hp} {pc : Nat} {ls st : List Value} {cc : ByteArray}
/-- what the tables say of a field that is written -/
def FP (s : State) (args : Array Value) (own nm : String) (index t k : Nat) : Prop :=
  parseFieldDescriptor (cT t k).2.2.1 = some (cTy t k) ∧ (∃ n, (Cond.instantiable (cNm t) n).before args s = true) ∧
  ((Cond.lays (cNm t) (cT t k).1 (cT t k).2.1 (cT t k).2.2.1).before args s = true ∨ ((Cond.laysFinal (cNm t) (cT t k).1 (cT t k).2.1 (cT t k).2.2.1).before args s = true ∧ nm = "<init>" ∧ (cT t k).1 = own ∧ ∃ ref : String, (Cond.fieldLink own index ref (cT t k).2.1 (cT t k).2.2.1).before args s = true ∧ ∀ x, s.fieldFound? (cT t k).1 (cT t k).2.1 (cT t k).2.2.1 = some x → s.fieldFound? ref (cT t k).2.1 (cT t k).2.2.1 = some x))
theorem k_wr {a t k : Nat} {v : Value} {G' : Hp} {own : String} {index : Nat} {st' : List Value} (hfl : FL s args own index t k) (hfp : FP s args own meth.name index t k) (ht : gT G a = t) (hb' : gB G ≤ a) (hv : narrow (cTy t k) v = v ∧ fits (cTy t k) v = true)
    (hown : s.vm.findClass own = some m.cls) (hK : gK G' = gK G) (hX : gX G' = gX G) (hS : gS G' = gS G) (hT : gT G' = gT G) (hN : gN G' = gN G) (hI : ∀ q j, ¬ (q = a ∧ j = k) → gI G' q j = gI G q j) (hJ : ∀ q j, ¬ (q = a ∧ j = k) → gJ G' q j = gJ G q j) (hR : ∀ q j, ¬ (q = a ∧ j = k) → gR G' q j = gR G q j) (hn : fval G' a k (cTy t k) = v)
    (hx : p.tables.exec = Jvm.exec) (hb : c.code = cc) (hg : decode cc pc = .ok (.putfield index, 3)) :
    CmdK p l e R s m args below meth c Q x0 s0 met hd d G pc ls (v :: .ref a :: st') (cJ (pc + 3) ls st' G') := by
  subst ht
  obtain ⟨htc, hkl, ref, hlink, hsame⟩ := hfl
  obtain ⟨hty, ⟨n9, hins⟩, hlay⟩ := hfp
  intro _ _ _ kk lsA H locs h1 h2 h3 h4 h5 h6
  have h20 := h2
  obtain ⟨e1, e2, ⟨D, cA, hKK, hc⟩, e5, e6⟩ := h2
  rcases hc a with h0 | ⟨cell, q1, q2, q3, q4, ⟨-, hcls, hfs⟩ | ⟨hta, -⟩ | ⟨hta, -⟩⟩
  · rw [h0] at htc
    exact absurd htc tcl_0
  · have hvm := q4 hb'
    have hC := hKK.1 _ htc
    obtain ⟨cf, kf, fi, fd, hi, hsl, hst⟩ := hC.1 k hkl
    obtain ⟨cC, kC9, hfc, hkC, hkind, -⟩ := Cond.instantiable_spec hins
    have hcC : cC = cell.cls := Option.some.inj (hfc.symm.trans (by rw [hcls]; exact hC.2.1))
    subst hcC
    have hlt : fd.slot < cell.slots.size := by rw [hsl]; exact k2_hasslot (hfs k hkl)
    have fin : ∀ H' : Heap, H'[a]? = some (cell.setSlot fd.slot v) → H'.size = H.size → (∀ q, q ≠ a → H'[q]? = H[q]?) → W p l e R s m args below meth c H' (locs ++ [⟨a, fd.slot⟩]) (gX G - x0) (gS G - s0) Q (F0 m (pc + 3) lsA st') := by
      intro H' f1 f2 f3
      have hp' : HpA s H' G' := by
        refine h20.put (a := a) hK hX hT hN (fun q j z => hI q j (fun w => z w.1)) (fun q j z => hJ q j (fun w => z w.1)) (fun q j z => hR q j (fun w => z w.1)) f2 f3 hb' ?_
        intro D2 cA2 hK2 hc2
        have hC2 := hK2.1 _ htc
        rcases hc2 with h0 | ⟨cell2, r1, r2, r3, r4, ⟨-, rcls, rfs⟩ | ⟨hta, -⟩ | ⟨hta, -⟩⟩
        · rw [h0] at htc
          exact absurd htc tcl_0
        · cases q1.symm.trans r1
          obtain ⟨_, _, _, fd2, hi2, hsl2, -⟩ := hC2.1 k hkl
          cases hi.symm.trans hi2
          refine Or.inr ⟨_, f1, q2, q3, fun _ => hvm, Or.inl ⟨by rw [hT]; exact htc, by rw [hT]; exact rcls, fun j hj => ?_⟩⟩
          rw [hT] at hj ⊢
          rw [setSlot_at (rfs j hj)]
          by_cases ej : j = k
          · subst ej
            rw [if_pos hsl2.symm, hn]
          · rw [if_neg (fun z => hC2.2.2.2 j k hj hkl ej (z.trans hsl2))]
            congr 1
            have n1 : ¬ (a = a ∧ j = k) := fun z => ej z.2
            cases cTy (gT G a) j <;> simp [fval, hI a j n1, hJ a j n1, hR a j n1]
        · exact (tcl_tar htc hta).elim
        · exact (tcl_tlm htc hta).elim
      have h := kk lsA H' (locs ++ [⟨a, fd.slot⟩]) h1 hp' (h3.gk hK) (fun q hq => by
        rw [gB_gK hK]
        rcases List.mem_append.mp hq with z | z
        · exact h4 q z
        · rw [List.mem_singleton.mp z]; exact hb') (by rw [hX]; exact h5) (by rw [hS]; exact h6)
      rw [hX, hS] at h
      exact h
    rcases hlay with hlay | ⟨hlay, hnm, hdecl, ref2, hl, hsame2⟩
    · have hS6 : k2_Sd s fd cell.cls v := u_store hfc hkC hkind hlay hi hty hv.1 hv.2
      rcases hlink with hl | ⟨host, hl⟩
      · exact W.putK hx hb (f := fd) ⟨hown, hl, ⟨_, _, _, hsame _ hi⟩, hst⟩ hS6 q1 hvm hlt rfl rfl hg fin
      · exact va_WputK hx hb (f := fd) hown hl (hsame _ hi) hst hS6 q1 hvm hlt rfl rfl hg fin
    · have hS6 := u_fits hfc hkC hkind (Or.inr hlay) hi hty hv.1 hv.2
      have hcf : m.cls = cf := by
        obtain ⟨_, _, c', _, _, _, -, -, hf', -, -, -, hown2, -⟩ := Cond.laysFinal_spec hlay
        have e9 : c' = cf := by have := hi.symm.trans hf'; simp at this; exact this.1.symm
        rw [hdecl] at hown2
        rw [← e9]; exact Option.some.inj (hown.symm.trans hown2)
      exact W.putFinK hx hb hown hl (hsame2 _ hi) hst hcf hnm hS6 q1 hvm hlt rfl rfl hg fin
  · exact (tcl_tar htc hta).elim
  · exact (tcl_tlm htc hta).elim
theorem up2_ne {α : Type} {f : Nat → Nat → α} {a k q j : Nat} {x : α} (h : ¬ (q = a ∧ j = k)) : up2 f a k x q j = f q j := if_neg h
theorem up2_eq {α : Type} {f : Nat → Nat → α} {a k : Nat} {x : α} : up2 f a k x a k = x := if_pos ⟨rfl, rfl⟩
/-- the kinds of fields by type -/
def isI (ty : FieldType) (ok : Int32 → Bool) : Prop := (∀ (G : Hp) (a k : Nat), fval G a k ty = .int (gI G a k)) ∧ ∀ x, ok x = true → narrow ty (.int x) = .int x ∧ fits ty (.int x) = true
theorem isI_I : isI .int okI := ⟨fun _ _ _ => rfl, fun _ _ => okI_fit⟩
theorem isI_Z : isI .boolean okZ := ⟨fun _ _ _ => rfl, fun _ h => okZ_fit h⟩
theorem isI_B : isI .byte okB := ⟨fun _ _ _ => rfl, fun _ h => okB_fit h⟩
def isR (ty : FieldType) : Prop := (∀ (G : Hp) (a k : Nat), fval G a k ty = va_rf (gR G a k)) ∧ ∀ v, rf v = true → narrow ty v = v ∧ fits ty v = true
theorem isR_O {C : String} : isR (.object C) := ⟨fun _ _ _ => rfl, fun _ h => okR_fit h⟩
theorem isR_A {T : FieldType} : isR (.array T) := ⟨fun _ _ _ => rfl, fun _ h => okA_fit h⟩
theorem k_putI {ok : Int32 → Bool} {tk : List (Nat × Nat)} {own : String} {index : Nat} (hfl : ∀ q ∈ tk, FL s args own index q.1 q.2 ∧ FP s args own meth.name index q.1 q.2 ∧ isI (cTy q.1 q.2) ok) (hown : s.vm.findClass own = some m.cls) (hx : p.tables.exec = Jvm.exec) (hb : c.code = cc) (hg : decode cc pc = .ok (.putfield index, 3)) :
    CmdK p l e R s m args below meth c Q x0 s0 met hd d G pc ls st (pPutI ok tk (pc + 3) ls st G) := by
  unfold pPutI
  split
  · rename_i x a st9
    refine k_if (fun h0 => ?_) (fun _ => k_no)
    simp only [Bool.and_eq_true, decide_eq_true_eq] at h0
    split
    · rename_i k hk
      obtain ⟨h1, h2, h3⟩ := fk_all (P := fun t k => FL s args own index t k ∧ FP s args own meth.name index t k ∧ isI (cTy t k) ok) hfl hk
      exact k_wr h1 h2 rfl h0.2 (h3.2 x h0.1) hown rfl rfl rfl rfl rfl (fun q j z => up2_ne z) (fun q j z => rfl) (fun q j z => rfl) (by rw [h3.1]; exact congrArg Value.int up2_eq) hx hb hg
    · exact k_no
  · exact k_no
theorem k_putR {tk : List (Nat × Nat)} {own : String} {index : Nat} (hfl : ∀ q ∈ tk, FL s args own index q.1 q.2 ∧ FP s args own meth.name index q.1 q.2 ∧ isR (cTy q.1 q.2)) (hown : s.vm.findClass own = some m.cls) (hx : p.tables.exec = Jvm.exec) (hb : c.code = cc) (hg : decode cc pc = .ok (.putfield index, 3)) :
    CmdK p l e R s m args below meth c Q x0 s0 met hd d G pc ls st (pPutR tk (pc + 3) ls st G) := by
  unfold pPutR
  split
  · rename_i v a st9
    refine k_if (fun h0 => ?_) (fun _ => k_no)
    simp only [Bool.and_eq_true, decide_eq_true_eq] at h0
    split
    · rename_i k hk
      obtain ⟨h1, h2, h3⟩ := fk_all (P := fun t k => FL s args own index t k ∧ FP s args own meth.name index t k ∧ isR (cTy t k)) hfl hk
      exact k_wr h1 h2 rfl h0.2 (h3.2 v h0.1) hown rfl rfl rfl rfl rfl (fun q j z => rfl) (fun q j z => rfl) (fun q j z => up2_ne z) (by rw [h3.1]; exact (congrArg va_rf up2_eq).trans (va_rf_rvo h0.1)) hx hb hg
    · exact k_no
  · exact k_no
theorem k_putJ {tk : List (Nat × Nat)} {own : String} {index : Nat} (hfl : ∀ q ∈ tk, FL s args own index q.1 q.2 ∧ FP s args own meth.name index q.1 q.2 ∧ cTy q.1 q.2 = .long) (hown : s.vm.findClass own = some m.cls) (hx : p.tables.exec = Jvm.exec) (hb : c.code = cc) (hg : decode cc pc = .ok (.putfield index, 3)) :
    CmdK p l e R s m args below meth c Q x0 s0 met hd d G pc ls st (pPutJ tk (pc + 3) ls st G) := by
  unfold pPutJ
  split
  · rename_i x a st9
    refine k_if (fun h0 => ?_) (fun _ => k_no)
    split
    · rename_i k hk
      obtain ⟨h1, h2, h3⟩ := fk_all (P := fun t k => FL s args own index t k ∧ FP s args own meth.name index t k ∧ cTy t k = .long) hfl hk
      exact k_wr h1 h2 rfl h0 (by rw [h3]; exact okJ_fit) hown rfl rfl rfl rfl rfl (fun q j z => rfl) (fun q j z => up2_ne z) (fun q j z => rfl) (by rw [h3]; exact congrArg Value.long up2_eq) hx hb hg
    · exact k_no
  · exact k_no
/-- an array read -/
theorem k_ard {a : Nat} {i : Int32} {v : Value} {st' : List Value} (ht : tar (gT G a) = true) (hi : inb i (gN G a) = true) (hv : aval G a i.toNatClampNeg (gT G a) = v)
    (h : ∀ (lsA : Array Slot) (H : Heap) (locs : List Loc) (ce sl : Nat) (cell : Cell), H[a]? = some cell → s.isArrayOf cell (aTy (gT G a)) → cell.vm ≠ .unknown → ¬ (i < 0 ∨ cell.slots.size ≤ i.toNatClampNeg) → cell.slots[i.toNatClampNeg]? = some v →
      W p l e R s m args below meth c H locs ce sl Q (F0 m (pc + 1) lsA (v :: st')) → W p l e R s m args below meth c H locs ce sl Q (F0 m pc lsA (.int i :: .ref a :: st'))) :
    CmdK p l e R s m args below meth c Q x0 s0 met hd d G pc ls (.int i :: .ref a :: st') (cJ (pc + 1) ls (v :: st') G) := by
  intro _ _ _ kk lsA H locs h1 h2 h3 h4 h5 h6
  obtain ⟨cell, k, comp, q1, q2, q3, q4, q5, q6, -⟩ := h2.arr ht
  have hin := inb_iff.mp hi
  have hlt : i.toNatClampNeg < gN G a := Nat.not_le.mp fun q => hin (Or.inr q)
  exact h lsA H locs _ _ cell q1 q4 q3 (by rw [q5]; exact hin) (by rw [q6 _ hlt, hv]) (kk lsA H locs h1 h2 h3 h4 h5 h6)
theorem k_iald (hx : p.tables.exec = Jvm.exec) (hb : c.code = cc) (hg : decode cc pc = .ok (.iaload, 1)) : CmdK p l e R s m args below meth c Q x0 s0 met hd d G pc ls st (pIald 100 (pc + 1) ls st G) := by
  unfold pIald
  split
  · rename_i i a st9
    refine k_if (fun h0 => ?_) (fun _ => k_no)
    simp only [Bool.and_eq_true, decide_eq_true_eq] at h0
    exact k_ard (by rw [h0.1]; decide) h0.2 (by rw [h0.1]; rfl) (fun lsA H locs ce sl cell q1 q2 q3 q4 q5 k => W.iald hx hb q1 (by rw [h0.1] at q2; exact q2) q3 q4 q5 rfl rfl hg k)
  · exact k_no
theorem k_bald (hx : p.tables.exec = Jvm.exec) (hb : c.code = cc) (hg : decode cc pc = .ok (.baload, 1)) : CmdK p l e R s m args below meth c Q x0 s0 met hd d G pc ls st (pIald 102 (pc + 1) ls st G) := by
  unfold pIald
  split
  · rename_i i a st9
    refine k_if (fun h0 => ?_) (fun _ => k_no)
    simp only [Bool.and_eq_true, decide_eq_true_eq] at h0
    exact k_ard (by rw [h0.1]; decide) h0.2 (by rw [h0.1]; rfl) (fun lsA H locs ce sl cell q1 q2 q3 q4 q5 k => W.bald hx hb q1 (by rw [h0.1] at q2; exact q2) q3 q4 q5 rfl rfl hg k)
  · exact k_no
theorem k_lald (hx : p.tables.exec = Jvm.exec) (hb : c.code = cc) (hg : decode cc pc = .ok (.laload, 1)) : CmdK p l e R s m args below meth c Q x0 s0 met hd d G pc ls st (pLald (pc + 1) ls st G) := by
  unfold pLald
  split
  · rename_i i a st9
    refine k_if (fun h0 => ?_) (fun _ => k_no)
    simp only [Bool.and_eq_true, decide_eq_true_eq] at h0
    exact k_ard (by rw [h0.1]; decide) h0.2 (by rw [h0.1]; rfl) (fun lsA H locs ce sl cell q1 q2 q3 q4 q5 k => W.lald hx hb q1 (by rw [h0.1] at q2; exact q2) q3 q4 q5 rfl rfl hg k)
  · exact k_no
theorem k_dald (hx : p.tables.exec = Jvm.exec) (hb : c.code = cc) (hg : decode cc pc = .ok (.daload, 1)) : CmdK p l e R s m args below meth c Q x0 s0 met hd d G pc ls st (pDald (pc + 1) ls st G) := by
  unfold pDald
  split
  · rename_i i a st9
    refine k_if (fun h0 => ?_) (fun _ => k_no)
    simp only [Bool.and_eq_true, decide_eq_true_eq] at h0
    exact k_ard (by rw [h0.1]; decide) h0.2 (by rw [h0.1]; rfl) (fun lsA H locs ce sl cell q1 q2 q3 q4 q5 k => W.dald hx hb q1 (by rw [h0.1] at q2; exact q2) q3 q4 q5 rfl rfl hg k)
  · exact k_no
theorem tar_ref {t : Nat} (h : tar t = true) (h2 : 110 ≤ t) : t = 110 ∨ t = 111 ∨ t = 112 ∨ t = 113 := by
  simp only [tar, Bool.and_eq_true, Bool.or_eq_true, decide_eq_true_eq] at h
  omega
theorem aTy_ref {t : Nat} (h : tar t = true) (h2 : 110 ≤ t) : ∃ C, aTy t = .object C := by
  rcases tar_ref h h2 with rfl | rfl | rfl | rfl <;> exact ⟨_, rfl⟩
theorem HpA.tarR {H : Heap} {a : Nat} (h : HpA s H G) (h2 : 110 ≤ gT G a) : tar (gT G a) = true := by
  exact h.tag100 (by omega)
theorem k_aald (hx : p.tables.exec = Jvm.exec) (hb : c.code = cc) (hg : decode cc pc = .ok (.aaload, 1)) : CmdK p l e R s m args below meth c Q x0 s0 met hd d G pc ls st (pAald (pc + 1) ls st G) := by
  unfold pAald
  split
  · rename_i i a st9
    refine k_if (fun h0 => ?_) (fun _ => k_no)
    simp only [Bool.and_eq_true, decide_eq_true_eq] at h0
    intro g1 g2 g3 kk lsA H locs h1 h2 h3 h4 h5 h6
    have ht := h2.tarR h0.1
    obtain ⟨C, hC⟩ := aTy_ref ht h0.1
    exact k_ard (met := met) (hd := hd) (d := d) ht h0.2 (if_pos h0.1) (fun lsA H locs ce sl cell q1 q2 q3 q4 q5 k => W.aald hx hb q1 (ty := .object C) (by rw [hC] at q2; exact q2) rfl q3 q4 q5 rfl rfl hg k) g1 g2 g3 kk lsA H locs h1 h2 h3 h4 h5 h6
  · exact k_no
theorem k_alen (hx : p.tables.exec = Jvm.exec) (hb : c.code = cc) (hg : decode cc pc = .ok (.arraylength, 1)) : CmdK p l e R s m args below meth c Q x0 s0 met hd d G pc ls st (pAlen (pc + 1) ls st G) := by
  unfold pAlen
  split
  · rename_i a st9
    refine k_if (fun h0 => ?_) (fun _ => k_no)
    simp only [Bool.and_eq_true, decide_eq_true_eq] at h0
    intro _ _ _ kk lsA H locs h1 h2 h3 h4 h5 h6
    have ht : tar (gT G a) = true := h2.tag100 (by omega)
    obtain ⟨cell, k, comp, q1, q2, q3, q4, q5, q6, -⟩ := h2.arr ht
    exact W.alen hx hb q1 q4 (by rw [q5]; rfl) rfl rfl hg (kk lsA H locs h1 h2 h3 h4 h5 h6)
  · exact k_no
/-- an array write -/
theorem k_awr {a : Nat} {i : Int32} {v : Value} {sv st' : List Value} {G' : Hp} (ht : tar (gT G a) = true) (hi : inb i (gN G a) = true) (hb' : gB G ≤ a)
    (hK : gK G' = gK G) (hX : gX G' = gX G) (hS : gS G' = gS G) (hT : gT G' = gT G) (hN : gN G' = gN G) (hI : ∀ q j, ¬ (q = a ∧ j = i.toNatClampNeg) → gI G' q j = gI G q j) (hJ : ∀ q j, ¬ (q = a ∧ j = i.toNatClampNeg) → gJ G' q j = gJ G q j) (hR : ∀ q j, ¬ (q = a ∧ j = i.toNatClampNeg) → gR G' q j = gR G q j) (hn : aval G' a i.toNatClampNeg (gT G a) = v)
    (h : ∀ (lsA : Array Slot) (H : Heap) (locs : List Loc) (ce sl : Nat) (cell : Cell) (k : Class) (comp : ClassId), HpA s H G → H[a]? = some cell → s.isArrayOf cell (aTy (gT G a)) → cell.vm ≠ .unknown → ¬ (i < 0 ∨ cell.slots.size ≤ i.toNatClampNeg) → s.vm.classes[cell.cls]? = some k → k.kind = .array comp (aTy (gT G a)) → (match aTy (gT G a) with | .object C => s.vm.findClass C = some comp | _ => True) →
      (∀ H' : Heap, H'[a]? = some (cell.setSlot i.toNatClampNeg v) → H'.size = H.size → (∀ q, q ≠ a → H'[q]? = H[q]?) → W p l e R s m args below meth c H' (locs ++ [⟨a, i.toNatClampNeg⟩]) ce sl Q (F0 m (pc + 1) lsA st')) → W p l e R s m args below meth c H locs ce sl Q (F0 m pc lsA (sv ++ .int i :: .ref a :: st'))) :
    CmdK p l e R s m args below meth c Q x0 s0 met hd d G pc ls (sv ++ .int i :: .ref a :: st') (cJ (pc + 1) ls st' G') := by
  intro _ _ _ kk lsA H locs h1 h2 h3 h4 h5 h6
  obtain ⟨cell, k, comp, q1, q2, q3, q4, q5, q6, q7, q8, q9, q10⟩ := h2.arr ht
  have hin := inb_iff.mp hi
  have hlt : i.toNatClampNeg < gN G a := Nat.not_le.mp fun q => hin (Or.inr q)
  refine h lsA H locs _ _ cell k comp h2 q1 q4 q3 (by rw [q5]; exact hin) q8 q9 q10 fun H' f1 f2 f3 => ?_
  have hp' : HpA s H' G' := by
    refine h2.put (a := a) hK hX hT hN (fun q j z => hI q j (fun w => z w.1)) (fun q j z => hJ q j (fun w => z w.1)) (fun q j z => hR q j (fun w => z w.1)) f2 f3 hb' ?_
    intro D2 cA2 hK2 hc2
    rcases hc2 with h0 | ⟨cell2, r1, r2, r3, r4, ⟨z, -⟩ | ⟨-, rcls, rsz, rfs⟩ | ⟨z, -⟩⟩
    · rw [h0] at ht
      exact absurd ht tar_0
    · exact (tcl_tar z ht).elim
    · cases q1.symm.trans r1
      refine Or.inr ⟨_, f1, q2, q3, fun z => r4 (by rw [gB_gK hK] at z; exact z), Or.inr (Or.inl ⟨by rw [hT]; exact ht, by rw [hT]; exact rcls, ?_, fun j hj => ?_⟩)⟩
      · rw [hN, ← rsz]
        exact Array.size_setIfInBounds
      · rw [hN] at hj
        rw [hT, setSlot_at (rfs j hj)]
        by_cases ej : j = i.toNatClampNeg
        · rw [if_pos ej, ej, hn]
        · rw [if_neg ej]
          congr 1
          have n1 : ¬ (a = a ∧ j = i.toNatClampNeg) := fun z => ej z.2
          simp [aval, hI a j n1, hJ a j n1, hR a j n1]
    · exact (tar_tlm ht z).elim
  have h := kk lsA H' (locs ++ [⟨a, i.toNatClampNeg⟩]) h1 hp' (h3.gk hK) (fun q hq => by
    rw [gB_gK hK]
    rcases List.mem_append.mp hq with z | z
    · exact h4 q z
    · rw [List.mem_singleton.mp z]; exact hb') (by rw [hX]; exact h5) (by rw [hS]; exact h6)
  rw [hX, hS] at h
  exact h
theorem k_iast (hx : p.tables.exec = Jvm.exec) (hb : c.code = cc) (hg : decode cc pc = .ok (.iastore, 1)) : CmdK p l e R s m args below meth c Q x0 s0 met hd d G pc ls st (pIast (pc + 1) ls st G) := by
  unfold pIast
  split
  · rename_i x i a st9
    refine k_if (fun h0 => ?_) (fun _ => k_no)
    simp only [Bool.and_eq_true, decide_eq_true_eq] at h0
    obtain ⟨⟨ht, hi⟩, hba⟩ := h0
    exact k_awr (sv := [.int x]) (v := .int x) (by rw [ht]; decide) hi hba rfl rfl rfl rfl rfl (fun q j z => up2_ne z) (fun q j z => rfl) (fun q j z => rfl) (by rw [ht]; exact congrArg Value.int up2_eq) (fun lsA H locs ce sl cell k comp _ q1 q2 q3 q4 _ _ _ kk => W.iast hx hb q1 (by rw [ht] at q2; exact q2) q3 q4 rfl rfl hg kk)
  · exact k_no
theorem k_bast (hx : p.tables.exec = Jvm.exec) (hb : c.code = cc) (hg : decode cc pc = .ok (.bastore, 1)) : CmdK p l e R s m args below meth c Q x0 s0 met hd d G pc ls st (pBast (pc + 1) ls st G) := by
  unfold pBast
  split
  · rename_i x i a st9
    refine k_if (fun h0 => ?_) (fun _ => k_no)
    simp only [Bool.and_eq_true, decide_eq_true_eq] at h0
    obtain ⟨⟨ht, hi⟩, hba⟩ := h0
    exact k_awr (sv := [.int x]) (v := .int x.toInt8.toInt32) (by rw [ht]; decide) hi hba rfl rfl rfl rfl rfl (fun q j z => up2_ne z) (fun q j z => rfl) (fun q j z => rfl) (by rw [ht]; exact congrArg Value.int up2_eq) (fun lsA H locs ce sl cell k comp _ q1 q2 q3 q4 _ _ _ kk => W.bast hx hb q1 (by rw [ht] at q2; exact q2) q3 q4 rfl rfl hg kk)
  · exact k_no
theorem k_last (hx : p.tables.exec = Jvm.exec) (hb : c.code = cc) (hg : decode cc pc = .ok (.lastore, 1)) : CmdK p l e R s m args below meth c Q x0 s0 met hd d G pc ls st (pLast (pc + 1) ls st G) := by
  unfold pLast
  split
  · rename_i x i a st9
    refine k_if (fun h0 => ?_) (fun _ => k_no)
    simp only [Bool.and_eq_true, decide_eq_true_eq] at h0
    obtain ⟨⟨ht, hi⟩, hba⟩ := h0
    exact k_awr (sv := [.long x]) (v := .long x) (by rw [ht]; decide) hi hba rfl rfl rfl rfl rfl (fun q j z => rfl) (fun q j z => up2_ne z) (fun q j z => rfl) (by rw [ht]; exact congrArg Value.long up2_eq) (fun lsA H locs ce sl cell k comp _ q1 q2 q3 q4 _ _ _ kk => W.last hx hb q1 (by rw [ht] at q2; exact q2) q3 q4 rfl rfl hg kk)
  · exact k_no
theorem k_dast (hx : p.tables.exec = Jvm.exec) (hb : c.code = cc) (hg : decode cc pc = .ok (.dastore, 1)) : CmdK p l e R s m args below meth c Q x0 s0 met hd d G pc ls st (pDast (pc + 1) ls st G) := by
  unfold pDast
  split
  · rename_i x i a st9
    refine k_if (fun h0 => ?_) (fun _ => k_no)
    simp only [Bool.and_eq_true, decide_eq_true_eq] at h0
    obtain ⟨⟨ht, hi⟩, hba⟩ := h0
    exact k_awr (sv := [.double x]) (v := .double x) (by rw [ht]; decide) hi hba rfl rfl rfl rfl rfl (fun q j z => rfl) (fun q j z => up2_ne z) (fun q j z => rfl) (by rw [ht]; exact congrArg Value.double ((congrArg Int64.toUInt64 up2_eq).trans (by simp))) (fun lsA H locs ce sl cell k comp _ q1 q2 q3 q4 _ _ _ kk => W.dast hx hb q1 (by rw [ht] at q2; exact q2) q3 q4 rfl rfl hg kk)
  · exact k_no
end KSF

theorem lset1_lt {ls ls' : List Value} {i : Nat} {v : Value} (h : lset1 ls i v = some ls') : i < ls.length := by
  unfold lset1 at h
  split at h
  · rename_i q
    simp only [Bool.and_eq_true, decide_eq_true_eq] at q
    exact q.1
  · cases h
theorem lset2_lt {ls ls' : List Value} {i : Nat} {v : Value} (h : lset2 ls i v = some ls') : i + 1 < ls.length := by
  unfold lset2 at h
  split at h
  · rename_i q
    simp only [Bool.and_eq_true, decide_eq_true_eq] at q
    exact q.1
  · cases h
/-! what each instruction owes, over the kit's rows: locals, stack, numbers, jumps -/
section KSD
variable {p : Program} {l : Launch} {e : Env} {R : Room} {s : State} {m : MethodId} {args : Array Value} {below : List Frame} {meth : Method} {c : Code} {Q : State → Prop} {x0 s0 : Nat}
variable {met : Nat → Nat → List Value → Hp → Out → Hp → Prop} {hd : Nat → Option Nat} {d : Nat} {G : Hp} {pc : Nat} {ls st : List Value} {cc : ByteArray}
theorem k_same {pc' : Nat} {st' : List Value} (h : ∀ (lsA : Array Slot) (H : Heap) (locs : List Loc) (ce sl : Nat), LsOK lsA c.maxLocals ls → W p l e R s m args below meth c H locs ce sl Q (F0 m pc' lsA st') → W p l e R s m args below meth c H locs ce sl Q (F0 m pc lsA st)) :
    CmdK p l e R s m args below meth c Q x0 s0 met hd d G pc ls st (cJ pc' ls st' G) := fun _ _ _ k lsA H locs h1 h2 h3 h4 h5 h6 => h lsA H locs _ _ h1 (k lsA H locs h1 h2 h3 h4 h5 h6)
theorem k_ls {pc' : Nat} {ls' st' : List Value} (h : ∀ (lsA : Array Slot) (H : Heap) (locs : List Loc) (ce sl : Nat), LsOK lsA c.maxLocals ls → (∀ lsA' : Array Slot, LsOK lsA' c.maxLocals ls' → W p l e R s m args below meth c H locs ce sl Q (F0 m pc' lsA' st')) → W p l e R s m args below meth c H locs ce sl Q (F0 m pc lsA st)) :
    CmdK p l e R s m args below meth c Q x0 s0 met hd d G pc ls st (cJ pc' ls' st' G) := fun _ _ _ k lsA H locs h1 h2 h3 h4 h5 h6 => h lsA H locs _ _ h1 (fun lsA' hl => k lsA' H locs hl h2 h3 h4 h5 h6)
theorem k_no : CmdK p l e R s m args below meth c Q x0 s0 met hd d G pc ls st none := trivial
theorem k_of {a b : Cmd} (h : a = b) (k : CmdK p l e R s m args below meth c Q x0 s0 met hd d G pc ls st b) : CmdK p l e R s m args below meth c Q x0 s0 met hd d G pc ls st a := h ▸ k
theorem k_if {P : Prop} [h : Decidable P] {a b : Cmd} (ka : P → CmdK p l e R s m args below meth c Q x0 s0 met hd d G pc ls st a) (kb : ¬ P → CmdK p l e R s m args below meth c Q x0 s0 met hd d G pc ls st b) : CmdK p l e R s m args below meth c Q x0 s0 met hd d G pc ls st (if P then a else b) := by
  by_cases q : P
  · rw [if_pos q]; exact ka q
  · rw [if_neg q]; exact kb q
theorem k_iload {i : Nat} (hx : p.tables.exec = Jvm.exec) (hb : c.code = cc) (hg : decode cc pc = .ok (.iload i, 2)) : CmdK p l e R s m args below meth c Q x0 s0 met hd d G pc ls st (pIload i (pc + 2) ls st G) := by
  unfold pIload
  split
  · rename_i x h
    exact k_same fun lsA H locs ce sl hl k => lv_iload hx hb hg (hl.at h (by intro q; cases q)) k
  · exact k_no
theorem k_iload_n {i : Nat} {k : Fin 4} (hk : (k : Nat) = i) (hx : p.tables.exec = Jvm.exec) (hb : c.code = cc) (hg : decode cc pc = .ok (.iload_n k, 1)) : CmdK p l e R s m args below meth c Q x0 s0 met hd d G pc ls st (pIload i (pc + 1) ls st G) := by
  unfold pIload
  split
  · rename_i x h
    exact k_same fun lsA H locs ce sl hl k => lv_iload_n hx hb hg hk (hl.at h (by intro q; cases q)) k
  · exact k_no
theorem k_lload {i : Nat} (hx : p.tables.exec = Jvm.exec) (hb : c.code = cc) (hg : decode cc pc = .ok (.lload i, 2)) : CmdK p l e R s m args below meth c Q x0 s0 met hd d G pc ls st (pLload i (pc + 2) ls st G) := by
  unfold pLload
  split
  · rename_i x h
    exact k_same fun lsA H locs ce sl hl k => lv_lload hx hb hg (hl.at h (by intro q; cases q)) k
  · exact k_no
theorem k_lload_n {i : Nat} {k : Fin 4} (hk : (k : Nat) = i) (hx : p.tables.exec = Jvm.exec) (hb : c.code = cc) (hg : decode cc pc = .ok (.lload_n k, 1)) : CmdK p l e R s m args below meth c Q x0 s0 met hd d G pc ls st (pLload i (pc + 1) ls st G) := by
  unfold pLload
  split
  · rename_i x h
    exact k_same fun lsA H locs ce sl hl k => lv_lload_n hx hb hg hk (hl.at h (by intro q; cases q)) k
  · exact k_no
theorem k_fload {i : Nat} (hx : p.tables.exec = Jvm.exec) (hb : c.code = cc) (hg : decode cc pc = .ok (.fload i, 2)) : CmdK p l e R s m args below meth c Q x0 s0 met hd d G pc ls st (pFload i (pc + 2) ls st G) := by
  unfold pFload
  split
  · rename_i x h
    exact k_same fun lsA H locs ce sl hl k => lv_fload hx hb hg (hl.at h (by intro q; cases q)) k
  · exact k_no
theorem k_fload_n {i : Nat} {k : Fin 4} (hk : (k : Nat) = i) (hx : p.tables.exec = Jvm.exec) (hb : c.code = cc) (hg : decode cc pc = .ok (.fload_n k, 1)) : CmdK p l e R s m args below meth c Q x0 s0 met hd d G pc ls st (pFload i (pc + 1) ls st G) := by
  unfold pFload
  split
  · rename_i x h
    exact k_same fun lsA H locs ce sl hl k => lv_fload_n hx hb hg hk (hl.at h (by intro q; cases q)) k
  · exact k_no
theorem k_dload {i : Nat} (hx : p.tables.exec = Jvm.exec) (hb : c.code = cc) (hg : decode cc pc = .ok (.dload i, 2)) : CmdK p l e R s m args below meth c Q x0 s0 met hd d G pc ls st (pDload i (pc + 2) ls st G) := by
  unfold pDload
  split
  · rename_i x h
    exact k_same fun lsA H locs ce sl hl k => lv_dload hx hb hg (hl.at h (by intro q; cases q)) k
  · exact k_no
theorem k_dload_n {i : Nat} {k : Fin 4} (hk : (k : Nat) = i) (hx : p.tables.exec = Jvm.exec) (hb : c.code = cc) (hg : decode cc pc = .ok (.dload_n k, 1)) : CmdK p l e R s m args below meth c Q x0 s0 met hd d G pc ls st (pDload i (pc + 1) ls st G) := by
  unfold pDload
  split
  · rename_i x h
    exact k_same fun lsA H locs ce sl hl k => lv_dload_n hx hb hg hk (hl.at h (by intro q; cases q)) k
  · exact k_no
theorem k_aload {i : Nat} (hx : p.tables.exec = Jvm.exec) (hb : c.code = cc) (hg : decode cc pc = .ok (.aload i, 2)) : CmdK p l e R s m args below meth c Q x0 s0 met hd d G pc ls st (pAload i (pc + 2) ls st G) := by
  unfold pAload
  refine k_if (fun h => ?_) (fun _ => k_no)
  obtain ⟨r, hr⟩ := rf_elim h
  rw [hr]
  cases r with
  | none => exact k_same fun lsA H locs ce sl hl k => lv_aloadN hx hb hg (hl.at hr (by intro q; cases q)) k
  | some a => exact k_same fun lsA H locs ce sl hl k => lv_aload hx hb hg (hl.at hr (by intro q; cases q)) k
theorem k_aload_n {i : Nat} {k : Fin 4} (hk : (k : Nat) = i) (hx : p.tables.exec = Jvm.exec) (hb : c.code = cc) (hg : decode cc pc = .ok (.aload_n k, 1)) : CmdK p l e R s m args below meth c Q x0 s0 met hd d G pc ls st (pAload i (pc + 1) ls st G) := by
  unfold pAload
  refine k_if (fun h => ?_) (fun _ => k_no)
  obtain ⟨r, hr⟩ := rf_elim h
  rw [hr]
  cases r with
  | none => exact k_same fun lsA H locs ce sl hl k => lv_aload_nN hx hb hg hk (hl.at hr (by intro q; cases q)) k
  | some a => exact k_same fun lsA H locs ce sl hl k => lv_aload_n hx hb hg hk (hl.at hr (by intro q; cases q)) k
theorem k_istore {i : Nat} (hx : p.tables.exec = Jvm.exec) (hb : c.code = cc) (hg : decode cc pc = .ok (.istore i, 2)) : CmdK p l e R s m args below meth c Q x0 s0 met hd d G pc ls st (pIstore i (pc + 2) ls st G) := by
  unfold pIstore
  split
  · rename_i x st9
    unfold oJ
    split
    · rename_i ls' h
      exact k_ls fun lsA H locs ce sl hl k => lv_istore hx hb hg hl.2 (by have := lset1_lt h; rw [hl.1] at this; exact this) rfl (fun lsA' h' => k lsA' (LsOK.set1 hl.1 h h'))
    · exact k_no
  · exact k_no
theorem k_istore_n {i : Nat} {k : Fin 4} (hk : (k : Nat) = i) (hx : p.tables.exec = Jvm.exec) (hb : c.code = cc) (hg : decode cc pc = .ok (.istore_n k, 1)) : CmdK p l e R s m args below meth c Q x0 s0 met hd d G pc ls st (pIstore i (pc + 1) ls st G) := by
  unfold pIstore
  split
  · rename_i x st9
    unfold oJ
    split
    · rename_i ls' h
      exact k_ls fun lsA H locs ce sl hl k => lv_istore_n hx hb hg hk hl.2 (by have := lset1_lt h; rw [hl.1] at this; exact this) rfl (fun lsA' h' => k lsA' (LsOK.set1 hl.1 h h'))
    · exact k_no
  · exact k_no
theorem k_fstore {i : Nat} (hx : p.tables.exec = Jvm.exec) (hb : c.code = cc) (hg : decode cc pc = .ok (.fstore i, 2)) : CmdK p l e R s m args below meth c Q x0 s0 met hd d G pc ls st (pFstore i (pc + 2) ls st G) := by
  unfold pFstore
  split
  · rename_i x st9
    unfold oJ
    split
    · rename_i ls' h
      exact k_ls fun lsA H locs ce sl hl k => lv_fstore hx hb hg hl.2 (by have := lset1_lt h; rw [hl.1] at this; exact this) rfl (fun lsA' h' => k lsA' (LsOK.set1 hl.1 h h'))
    · exact k_no
  · exact k_no
theorem k_fstore_n {i : Nat} {k : Fin 4} (hk : (k : Nat) = i) (hx : p.tables.exec = Jvm.exec) (hb : c.code = cc) (hg : decode cc pc = .ok (.fstore_n k, 1)) : CmdK p l e R s m args below meth c Q x0 s0 met hd d G pc ls st (pFstore i (pc + 1) ls st G) := by
  unfold pFstore
  split
  · rename_i x st9
    unfold oJ
    split
    · rename_i ls' h
      exact k_ls fun lsA H locs ce sl hl k => lv_fstore_n hx hb hg hk hl.2 (by have := lset1_lt h; rw [hl.1] at this; exact this) rfl (fun lsA' h' => k lsA' (LsOK.set1 hl.1 h h'))
    · exact k_no
  · exact k_no
theorem k_lstore {i : Nat} (hx : p.tables.exec = Jvm.exec) (hb : c.code = cc) (hg : decode cc pc = .ok (.lstore i, 2)) : CmdK p l e R s m args below meth c Q x0 s0 met hd d G pc ls st (pLstore i (pc + 2) ls st G) := by
  unfold pLstore
  split
  · rename_i x st9
    unfold oJ
    split
    · rename_i ls' h
      exact k_ls fun lsA H locs ce sl hl k => lv_lstore hx hb hg hl.2 (by have := lset2_lt h; rw [hl.1] at this; exact this) rfl (fun lsA' h' => k lsA' (LsOK.set2 hl.1 h h'))
    · exact k_no
  · exact k_no
theorem k_lstore_n {i : Nat} {k : Fin 4} (hk : (k : Nat) = i) (hx : p.tables.exec = Jvm.exec) (hb : c.code = cc) (hg : decode cc pc = .ok (.lstore_n k, 1)) : CmdK p l e R s m args below meth c Q x0 s0 met hd d G pc ls st (pLstore i (pc + 1) ls st G) := by
  unfold pLstore
  split
  · rename_i x st9
    unfold oJ
    split
    · rename_i ls' h
      exact k_ls fun lsA H locs ce sl hl k => lv_lstore_n hx hb hg hk hl.2 (by have := lset2_lt h; rw [hl.1] at this; exact this) rfl (fun lsA' h' => k lsA' (LsOK.set2 hl.1 h h'))
    · exact k_no
  · exact k_no
theorem k_dstore {i : Nat} (hx : p.tables.exec = Jvm.exec) (hb : c.code = cc) (hg : decode cc pc = .ok (.dstore i, 2)) : CmdK p l e R s m args below meth c Q x0 s0 met hd d G pc ls st (pDstore i (pc + 2) ls st G) := by
  unfold pDstore
  split
  · rename_i x st9
    unfold oJ
    split
    · rename_i ls' h
      exact k_ls fun lsA H locs ce sl hl k => lv_dstore hx hb hg hl.2 (by have := lset2_lt h; rw [hl.1] at this; exact this) rfl (fun lsA' h' => k lsA' (LsOK.set2 hl.1 h h'))
    · exact k_no
  · exact k_no
theorem k_dstore_n {i : Nat} {k : Fin 4} (hk : (k : Nat) = i) (hx : p.tables.exec = Jvm.exec) (hb : c.code = cc) (hg : decode cc pc = .ok (.dstore_n k, 1)) : CmdK p l e R s m args below meth c Q x0 s0 met hd d G pc ls st (pDstore i (pc + 1) ls st G) := by
  unfold pDstore
  split
  · rename_i x st9
    unfold oJ
    split
    · rename_i ls' h
      exact k_ls fun lsA H locs ce sl hl k => lv_dstore_n hx hb hg hk hl.2 (by have := lset2_lt h; rw [hl.1] at this; exact this) rfl (fun lsA' h' => k lsA' (LsOK.set2 hl.1 h h'))
    · exact k_no
  · exact k_no
theorem k_astore {i : Nat} (hx : p.tables.exec = Jvm.exec) (hb : c.code = cc) (hg : decode cc pc = .ok (.astore i, 2)) : CmdK p l e R s m args below meth c Q x0 s0 met hd d G pc ls st (pAstore i (pc + 2) ls st G) := by
  unfold pAstore
  split
  · rename_i v st9
    refine k_if (fun hr => ?_) (fun _ => k_no)
    obtain ⟨r, rfl⟩ := rf_elim hr
    unfold oJ
    split
    · rename_i ls' h
      cases r with
      | none => exact k_ls fun lsA H locs ce sl hl k => lv_astoreN hx hb hg hl.2 (by have := lset1_lt h; rw [hl.1] at this; exact this) rfl (fun lsA' h' => k lsA' (LsOK.set1 hl.1 h h'))
      | some a => exact k_ls fun lsA H locs ce sl hl k => lv_astore hx hb hg hl.2 (by have := lset1_lt h; rw [hl.1] at this; exact this) rfl (fun lsA' h' => k lsA' (LsOK.set1 hl.1 h h'))
    · exact k_no
  · exact k_no
theorem k_astore_n {i : Nat} {k : Fin 4} (hk : (k : Nat) = i) (hx : p.tables.exec = Jvm.exec) (hb : c.code = cc) (hg : decode cc pc = .ok (.astore_n k, 1)) : CmdK p l e R s m args below meth c Q x0 s0 met hd d G pc ls st (pAstore i (pc + 1) ls st G) := by
  unfold pAstore
  split
  · rename_i v st9
    refine k_if (fun hr => ?_) (fun _ => k_no)
    obtain ⟨r, rfl⟩ := rf_elim hr
    unfold oJ
    split
    · rename_i ls' h
      cases r with
      | none => exact k_ls fun lsA H locs ce sl hl k => lv_astore_nN hx hb hg hk hl.2 (by have := lset1_lt h; rw [hl.1] at this; exact this) rfl (fun lsA' h' => k lsA' (LsOK.set1 hl.1 h h'))
      | some a => exact k_ls fun lsA H locs ce sl hl k => lv_astore_n hx hb hg hk hl.2 (by have := lset1_lt h; rw [hl.1] at this; exact this) rfl (fun lsA' h' => k lsA' (LsOK.set1 hl.1 h h'))
    · exact k_no
  · exact k_no
theorem k_iinc {i : Nat} {n : Int} {v : Int32} (hv : Int32.ofInt n = v) (hx : p.tables.exec = Jvm.exec) (hb : c.code = cc) (hg : decode cc pc = .ok (.iinc i n, 3)) : CmdK p l e R s m args below meth c Q x0 s0 met hd d G pc ls st (pIinc i v (pc + 3) ls st G) := by
  subst hv
  unfold pIinc
  split
  · rename_i x h0
    unfold oJ
    split
    · rename_i ls' h
      exact k_ls fun lsA H locs ce sl hl k => by
        obtain ⟨k9, hk9⟩ := List.getElem?_of_mem (prs_mem (ls := ls) (q := (i, .int x)) |>.mpr ⟨lset1_lt h, h0, by intro q; cases q⟩)
        exact lv_iinc hx hb hg hl.2 hk9 rfl (by have := lset1_lt h; rw [hl.1] at this; exact this) rfl (fun lsA' h' => k lsA' (LsOK.set1 hl.1 h h'))
    · exact k_no
  · exact k_no
theorem k_iconst {n : Int} {v : Int32} (hv : Int32.ofInt n = v) (hx : p.tables.exec = Jvm.exec) (hb : c.code = cc) (hg : decode cc pc = .ok (.iconst n, 1)) : CmdK p l e R s m args below meth c Q x0 s0 met hd d G pc ls st (pK (.int v) (pc + 1) ls st G) := k_same fun lsA H locs ce sl hl k => lv_iconst hx hb hg hv k
theorem k_bipush {n : Int} {v : Int32} (hv : (Int8.ofInt n).toInt32 = v) (hx : p.tables.exec = Jvm.exec) (hb : c.code = cc) (hg : decode cc pc = .ok (.bipush n, 2)) : CmdK p l e R s m args below meth c Q x0 s0 met hd d G pc ls st (pK (.int v) (pc + 2) ls st G) := k_same fun lsA H locs ce sl hl k => lv_bipush hx hb hg hv k
theorem k_sipush {n : Int} {v : Int32} (hv : (Int16.ofInt n).toInt32 = v) (hx : p.tables.exec = Jvm.exec) (hb : c.code = cc) (hg : decode cc pc = .ok (.sipush n, 3)) : CmdK p l e R s m args below meth c Q x0 s0 met hd d G pc ls st (pK (.int v) (pc + 3) ls st G) := k_same fun lsA H locs ce sl hl k => lv_sipush hx hb hg hv k
theorem k_lconst {n : Fin 2} {v : Int64} (hv : Int64.ofNat (n : Nat) = v) (hx : p.tables.exec = Jvm.exec) (hb : c.code = cc) (hg : decode cc pc = .ok (.lconst n, 1)) : CmdK p l e R s m args below meth c Q x0 s0 met hd d G pc ls st (pK (.long v) (pc + 1) ls st G) := k_same fun lsA H locs ce sl hl k => lv_lconst hx hb hg hv k
theorem k_dconst0 (hx : p.tables.exec = Jvm.exec) (hb : c.code = cc) (hg : decode cc pc = .ok (.dconst 0, 1)) : CmdK p l e R s m args below meth c Q x0 s0 met hd d G pc ls st (pK (.double FP.dconst0) (pc + 1) ls st G) := k_same fun lsA H locs ce sl hl k => lv_dconst0 hx hb hg k
theorem k_fconst0 (hx : p.tables.exec = Jvm.exec) (hb : c.code = cc) (hg : decode cc pc = .ok (.fconst 0, 1)) : CmdK p l e R s m args below meth c Q x0 s0 met hd d G pc ls st (pK (.float FP.fconst0) (pc + 1) ls st G) := k_same fun lsA H locs ce sl hl k => lv_fconst0 hx hb hg k
theorem k_null (hx : p.tables.exec = Jvm.exec) (hb : c.code = cc) (hg : decode cc pc = .ok (.aconst_null, 1)) : CmdK p l e R s m args below meth c Q x0 s0 met hd d G pc ls st (pK .null (pc + 1) ls st G) := k_same fun lsA H locs ce sl hl k => lv_null hx hb hg k
theorem k_ldc {own : String} {index : Nat} {v : Int32} (ho : s.vm.findClass own = some m.cls) (hc : (Cond.constant own index v).before args s = true) (hx : p.tables.exec = Jvm.exec) (hb : c.code = cc) (hg : decode cc pc = .ok (.ldc index, 2)) : CmdK p l e R s m args below meth c Q x0 s0 met hd d G pc ls st (pK (.int v) (pc + 2) ls st G) := k_same fun lsA H locs ce sl hl k => lv_ldc hx hb ho hc hg k
theorem k_ldc2 {own : String} {index : Nat} {v : Int64} (ho : s.vm.findClass own = some m.cls) (hc : (Cond.constantLong own index v).before args s = true) (hx : p.tables.exec = Jvm.exec) (hb : c.code = cc) (hg : decode cc pc = .ok (.ldc2_w index, 3)) : CmdK p l e R s m args below meth c Q x0 s0 met hd d G pc ls st (pK (.long v) (pc + 3) ls st G) := k_same fun lsA H locs ce sl hl k => lv_ldc2 hx hb ho hc hg k
theorem k_iadd (hx : p.tables.exec = Jvm.exec) (hb : c.code = cc) (hg : decode cc pc = .ok (.iadd, 1)) : CmdK p l e R s m args below meth c Q x0 s0 met hd d G pc ls st (pIadd (pc + 1) ls st G) := by
  unfold pIadd pI2
  split
  · exact k_same fun lsA H locs ce sl hl k => lv_iadd hx hb hg k
  · exact k_no
theorem k_isub (hx : p.tables.exec = Jvm.exec) (hb : c.code = cc) (hg : decode cc pc = .ok (.isub, 1)) : CmdK p l e R s m args below meth c Q x0 s0 met hd d G pc ls st (pIsub (pc + 1) ls st G) := by
  unfold pIsub pI2
  split
  · exact k_same fun lsA H locs ce sl hl k => lv_isub hx hb hg k
  · exact k_no
theorem k_imul (hx : p.tables.exec = Jvm.exec) (hb : c.code = cc) (hg : decode cc pc = .ok (.imul, 1)) : CmdK p l e R s m args below meth c Q x0 s0 met hd d G pc ls st (pImul (pc + 1) ls st G) := by
  unfold pImul pI2
  split
  · exact k_same fun lsA H locs ce sl hl k => lv_imul hx hb hg k
  · exact k_no
theorem k_iand (hx : p.tables.exec = Jvm.exec) (hb : c.code = cc) (hg : decode cc pc = .ok (.iand, 1)) : CmdK p l e R s m args below meth c Q x0 s0 met hd d G pc ls st (pIand (pc + 1) ls st G) := by
  unfold pIand pI2
  split
  · exact k_same fun lsA H locs ce sl hl k => lv_iand hx hb hg k
  · exact k_no
theorem k_ior (hx : p.tables.exec = Jvm.exec) (hb : c.code = cc) (hg : decode cc pc = .ok (.ior, 1)) : CmdK p l e R s m args below meth c Q x0 s0 met hd d G pc ls st (pIor (pc + 1) ls st G) := by
  unfold pIor pI2
  split
  · exact k_same fun lsA H locs ce sl hl k => lv_ior hx hb hg k
  · exact k_no
theorem k_ixor (hx : p.tables.exec = Jvm.exec) (hb : c.code = cc) (hg : decode cc pc = .ok (.ixor, 1)) : CmdK p l e R s m args below meth c Q x0 s0 met hd d G pc ls st (pIxor (pc + 1) ls st G) := by
  unfold pIxor pI2
  split
  · exact k_same fun lsA H locs ce sl hl k => lv_ixor hx hb hg k
  · exact k_no
theorem k_ishl (hx : p.tables.exec = Jvm.exec) (hb : c.code = cc) (hg : decode cc pc = .ok (.ishl, 1)) : CmdK p l e R s m args below meth c Q x0 s0 met hd d G pc ls st (pIshl (pc + 1) ls st G) := by
  unfold pIshl pI2
  split
  · exact k_same fun lsA H locs ce sl hl k => lv_ishl hx hb hg k
  · exact k_no
theorem k_ishr (hx : p.tables.exec = Jvm.exec) (hb : c.code = cc) (hg : decode cc pc = .ok (.ishr, 1)) : CmdK p l e R s m args below meth c Q x0 s0 met hd d G pc ls st (pIshr (pc + 1) ls st G) := by
  unfold pIshr pI2
  split
  · exact k_same fun lsA H locs ce sl hl k => lv_ishr hx hb hg k
  · exact k_no
theorem k_iushr (hx : p.tables.exec = Jvm.exec) (hb : c.code = cc) (hg : decode cc pc = .ok (.iushr, 1)) : CmdK p l e R s m args below meth c Q x0 s0 met hd d G pc ls st (pIushr (pc + 1) ls st G) := by
  unfold pIushr pI2
  split
  · exact k_same fun lsA H locs ce sl hl k => lv_iushr hx hb hg rfl k
  · exact k_no
theorem k_idiv (hx : p.tables.exec = Jvm.exec) (hb : c.code = cc) (hg : decode cc pc = .ok (.idiv, 1)) : CmdK p l e R s m args below meth c Q x0 s0 met hd d G pc ls st (pIdiv (pc + 1) ls st G) := by
  unfold pIdiv
  split
  · refine k_if (fun _ => k_no) (fun h0 => ?_)
    exact k_same fun lsA H locs ce sl hl k => lv_idiv hx hb hg h0 k
  · exact k_no
theorem k_irem (hx : p.tables.exec = Jvm.exec) (hb : c.code = cc) (hg : decode cc pc = .ok (.irem, 1)) : CmdK p l e R s m args below meth c Q x0 s0 met hd d G pc ls st (pIrem (pc + 1) ls st G) := by
  unfold pIrem
  split
  · refine k_if (fun _ => k_no) (fun h0 => ?_)
    exact k_same fun lsA H locs ce sl hl k => lv_irem hx hb hg h0 k
  · exact k_no
theorem k_ineg (hx : p.tables.exec = Jvm.exec) (hb : c.code = cc) (hg : decode cc pc = .ok (.ineg, 1)) : CmdK p l e R s m args below meth c Q x0 s0 met hd d G pc ls st (pIneg (pc + 1) ls st G) := by
  unfold pIneg pI1
  split
  · exact k_same fun lsA H locs ce sl hl k => lv_ineg hx hb hg k
  · exact k_no
theorem k_i2l (hx : p.tables.exec = Jvm.exec) (hb : c.code = cc) (hg : decode cc pc = .ok (.i2l, 1)) : CmdK p l e R s m args below meth c Q x0 s0 met hd d G pc ls st (pI2l (pc + 1) ls st G) := by
  unfold pI2l pI1
  split
  · exact k_same fun lsA H locs ce sl hl k => lv_i2l hx hb hg rfl k
  · exact k_no
theorem k_i2b (hx : p.tables.exec = Jvm.exec) (hb : c.code = cc) (hg : decode cc pc = .ok (.i2b, 1)) : CmdK p l e R s m args below meth c Q x0 s0 met hd d G pc ls st (pI2b (pc + 1) ls st G) := by
  unfold pI2b pI1
  split
  · exact k_same fun lsA H locs ce sl hl k => lv_i2b hx hb hg rfl k
  · exact k_no
theorem k_i2c (hx : p.tables.exec = Jvm.exec) (hb : c.code = cc) (hg : decode cc pc = .ok (.i2c, 1)) : CmdK p l e R s m args below meth c Q x0 s0 met hd d G pc ls st (pI2c (pc + 1) ls st G) := by
  unfold pI2c pI1
  split
  · exact k_same fun lsA H locs ce sl hl k => lv_i2c hx hb hg rfl k
  · exact k_no
theorem k_i2f (hx : p.tables.exec = Jvm.exec) (hb : c.code = cc) (hg : decode cc pc = .ok (.i2f, 1)) : CmdK p l e R s m args below meth c Q x0 s0 met hd d G pc ls st (pI2f (pc + 1) ls st G) := by
  unfold pI2f pI1
  split
  · exact k_same fun lsA H locs ce sl hl k => lv_i2f hx hb hg k
  · exact k_no
theorem k_i2d (hx : p.tables.exec = Jvm.exec) (hb : c.code = cc) (hg : decode cc pc = .ok (.i2d, 1)) : CmdK p l e R s m args below meth c Q x0 s0 met hd d G pc ls st (pI2d (pc + 1) ls st G) := by
  unfold pI2d pI1
  split
  · exact k_same fun lsA H locs ce sl hl k => lv_i2d hx hb hg k
  · exact k_no
theorem k_ladd (hx : p.tables.exec = Jvm.exec) (hb : c.code = cc) (hg : decode cc pc = .ok (.ladd, 1)) : CmdK p l e R s m args below meth c Q x0 s0 met hd d G pc ls st (pLadd (pc + 1) ls st G) := by
  unfold pLadd pL2
  split
  · exact k_same fun lsA H locs ce sl hl k => lv_ladd hx hb hg k
  · exact k_no
theorem k_lsub (hx : p.tables.exec = Jvm.exec) (hb : c.code = cc) (hg : decode cc pc = .ok (.lsub, 1)) : CmdK p l e R s m args below meth c Q x0 s0 met hd d G pc ls st (pLsub (pc + 1) ls st G) := by
  unfold pLsub pL2
  split
  · exact k_same fun lsA H locs ce sl hl k => lv_lsub hx hb hg k
  · exact k_no
theorem k_lmul (hx : p.tables.exec = Jvm.exec) (hb : c.code = cc) (hg : decode cc pc = .ok (.lmul, 1)) : CmdK p l e R s m args below meth c Q x0 s0 met hd d G pc ls st (pLmul (pc + 1) ls st G) := by
  unfold pLmul pL2
  split
  · exact k_same fun lsA H locs ce sl hl k => lv_lmul hx hb hg k
  · exact k_no
theorem k_land (hx : p.tables.exec = Jvm.exec) (hb : c.code = cc) (hg : decode cc pc = .ok (.land, 1)) : CmdK p l e R s m args below meth c Q x0 s0 met hd d G pc ls st (pLand (pc + 1) ls st G) := by
  unfold pLand pL2
  split
  · exact k_same fun lsA H locs ce sl hl k => lv_land hx hb hg k
  · exact k_no
theorem k_lor (hx : p.tables.exec = Jvm.exec) (hb : c.code = cc) (hg : decode cc pc = .ok (.lor, 1)) : CmdK p l e R s m args below meth c Q x0 s0 met hd d G pc ls st (pLor (pc + 1) ls st G) := by
  unfold pLor pL2
  split
  · exact k_same fun lsA H locs ce sl hl k => lv_lor hx hb hg k
  · exact k_no
theorem k_lshl (hx : p.tables.exec = Jvm.exec) (hb : c.code = cc) (hg : decode cc pc = .ok (.lshl, 1)) : CmdK p l e R s m args below meth c Q x0 s0 met hd d G pc ls st (pLshl (pc + 1) ls st G) := by
  unfold pLshl pLI
  split
  · exact k_same fun lsA H locs ce sl hl k => lv_lshl hx hb hg rfl k
  · exact k_no
theorem k_lshr (hx : p.tables.exec = Jvm.exec) (hb : c.code = cc) (hg : decode cc pc = .ok (.lshr, 1)) : CmdK p l e R s m args below meth c Q x0 s0 met hd d G pc ls st (pLshr (pc + 1) ls st G) := by
  unfold pLshr pLI
  split
  · exact k_same fun lsA H locs ce sl hl k => lv_lshr hx hb hg rfl k
  · exact k_no
theorem k_lcmp (hx : p.tables.exec = Jvm.exec) (hb : c.code = cc) (hg : decode cc pc = .ok (.lcmp, 1)) : CmdK p l e R s m args below meth c Q x0 s0 met hd d G pc ls st (pLcmp (pc + 1) ls st G) := by
  unfold pLcmp
  split
  · exact k_same fun lsA H locs ce sl hl k => W.lcmp hx hb hg k
  · exact k_no
theorem k_l2i (hx : p.tables.exec = Jvm.exec) (hb : c.code = cc) (hg : decode cc pc = .ok (.l2i, 1)) : CmdK p l e R s m args below meth c Q x0 s0 met hd d G pc ls st (pL2i (pc + 1) ls st G) := by
  unfold pL2i
  split
  · exact k_same fun lsA H locs ce sl hl k => lv_l2i hx hb hg rfl k
  · exact k_no
theorem k_fdiv (hx : p.tables.exec = Jvm.exec) (hb : c.code = cc) (hg : decode cc pc = .ok (.fdiv, 1)) : CmdK p l e R s m args below meth c Q x0 s0 met hd d G pc ls st (pFdiv (pc + 1) ls st G) := by
  unfold pFdiv
  split
  · refine k_if (fun h0 => ?_) (fun _ => k_no)
    exact k_same fun lsA H locs ce sl hl k => lv_fdiv hx hb hg h0 k
  · exact k_no
theorem k_ddiv (hx : p.tables.exec = Jvm.exec) (hb : c.code = cc) (hg : decode cc pc = .ok (.ddiv, 1)) : CmdK p l e R s m args below meth c Q x0 s0 met hd d G pc ls st (pDdiv (pc + 1) ls st G) := by
  unfold pDdiv
  split
  · refine k_if (fun h0 => ?_) (fun _ => k_no)
    exact k_same fun lsA H locs ce sl hl k => lv_ddiv hx hb hg h0 k
  · exact k_no
theorem k_f2d (hx : p.tables.exec = Jvm.exec) (hb : c.code = cc) (hg : decode cc pc = .ok (.f2d, 1)) : CmdK p l e R s m args below meth c Q x0 s0 met hd d G pc ls st (pF2d (pc + 1) ls st G) := by
  unfold pF2d
  split
  · refine k_if (fun h0 => ?_) (fun _ => k_no)
    exact k_same fun lsA H locs ce sl hl k => lv_f2d hx hb hg h0 k
  · exact k_no
theorem k_fcmp {op : CmpOp} (hx : p.tables.exec = Jvm.exec) (hb : c.code = cc) (hg : decode cc pc = .ok (.fcmp op, 1)) : CmdK p l e R s m args below meth c Q x0 s0 met hd d G pc ls st (pFcmp op (pc + 1) ls st G) := by
  unfold pFcmp
  split
  · exact k_same fun lsA H locs ce sl hl k => lv_fcmp hx hb hg k
  · exact k_no
theorem k_dcmp {op : CmpOp} (hx : p.tables.exec = Jvm.exec) (hb : c.code = cc) (hg : decode cc pc = .ok (.dcmp op, 1)) : CmdK p l e R s m args below meth c Q x0 s0 met hd d G pc ls st (pDcmp op (pc + 1) ls st G) := by
  unfold pDcmp
  split
  · exact k_same fun lsA H locs ce sl hl k => lv_dcmp hx hb hg k
  · exact k_no
theorem k_dup (hx : p.tables.exec = Jvm.exec) (hb : c.code = cc) (hg : decode cc pc = .ok (.dup, 1)) : CmdK p l e R s m args below meth c Q x0 s0 met hd d G pc ls st (pDup (pc + 1) ls st G) := by
  unfold pDup
  split
  · refine k_if (fun h0 => ?_) (fun _ => k_no)
    exact k_same fun lsA H locs ce sl hl k => lv_dup hx hb hg (c1_cat h0) k
  · exact k_no
theorem k_pop (hx : p.tables.exec = Jvm.exec) (hb : c.code = cc) (hg : decode cc pc = .ok (.pop, 1)) : CmdK p l e R s m args below meth c Q x0 s0 met hd d G pc ls st (pPop (pc + 1) ls st G) := by
  unfold pPop
  split
  · refine k_if (fun h0 => ?_) (fun _ => k_no)
    exact k_same fun lsA H locs ce sl hl k => lv_pop hx hb hg (c1_cat h0) k
  · exact k_no
theorem k_dup_x1 (hx : p.tables.exec = Jvm.exec) (hb : c.code = cc) (hg : decode cc pc = .ok (.dup_x1, 1)) : CmdK p l e R s m args below meth c Q x0 s0 met hd d G pc ls st (pDupX1 (pc + 1) ls st G) := by
  unfold pDupX1
  split
  · refine k_if (fun h0 => ?_) (fun _ => k_no)
    rw [Bool.and_eq_true] at h0
    exact k_same fun lsA H locs ce sl hl k => lv_dup_x1 hx hb hg (c1_cat h0.1) (c1_cat h0.2) k
  · exact k_no
theorem k_dup2 (hx : p.tables.exec = Jvm.exec) (hb : c.code = cc) (hg : decode cc pc = .ok (.dup2, 1)) : CmdK p l e R s m args below meth c Q x0 s0 met hd d G pc ls st (pDup2 (pc + 1) ls st G) := by
  unfold pDup2
  split
  · refine k_if (fun h0 => ?_) (fun _ => k_no)
    rw [Bool.and_eq_true] at h0
    exact k_same fun lsA H locs ce sl hl k => lv_dup2_11 hx hb hg (c1_cat h0.1) (c1_cat h0.2) k
  · exact k_no
theorem k_goto {off : Int} {t : Nat} (ht : (pc : Int) + off = (t : Int)) (hx : p.tables.exec = Jvm.exec) (hb : c.code = cc) (hg : decode cc pc = .ok (.goto off, 3)) : CmdK p l e R s m args below meth c Q x0 s0 met hd d G pc ls st (pGoto t ls st G) := k_same fun lsA H locs ce sl hl k => lv_goto hx hb hg ht k
theorem k_if_eq {off : Int} {t : Nat} (ht : (pc : Int) + off = (t : Int)) (hx : p.tables.exec = Jvm.exec) (hb : c.code = cc) (hg : decode cc pc = .ok (.ifCond .eq off, 3)) : CmdK p l e R s m args below meth c Q x0 s0 met hd d G pc ls st (pIf0 (fun x => decide (x = 0)) t (pc + 3) ls st G) := by
  unfold pIf0
  split
  · rename_i x st9
    refine k_if (fun h0 => ?_) (fun h0 => ?_)
    · have h1 := of_decide_eq_true h0
      exact k_same fun lsA H locs ce sl hl k => lv_if_eq hx hb hg ht (fun _ => k) (fun z => absurd h1 z)
    · have h1 : ¬ (x = 0) := fun z => h0 (decide_eq_true z)
      exact k_same fun lsA H locs ce sl hl k => lv_if_eq hx hb hg ht (fun z => absurd z h1) (fun _ => k)
  · exact k_no
theorem k_icmp_eq {off : Int} {t : Nat} (ht : (pc : Int) + off = (t : Int)) (hx : p.tables.exec = Jvm.exec) (hb : c.code = cc) (hg : decode cc pc = .ok (.if_icmp .eq off, 3)) : CmdK p l e R s m args below meth c Q x0 s0 met hd d G pc ls st (pIf2 (fun x y => decide (x = y)) t (pc + 3) ls st G) := by
  unfold pIf2
  split
  · rename_i y x st9
    refine k_if (fun h0 => ?_) (fun h0 => ?_)
    · have h1 := of_decide_eq_true h0
      exact k_same fun lsA H locs ce sl hl k => lv_icmp_eq hx hb hg ht (fun _ => k) (fun z => absurd h1 z)
    · have h1 : ¬ (x = y) := fun z => h0 (decide_eq_true z)
      exact k_same fun lsA H locs ce sl hl k => lv_icmp_eq hx hb hg ht (fun z => absurd z h1) (fun _ => k)
  · exact k_no
theorem k_if_ne {off : Int} {t : Nat} (ht : (pc : Int) + off = (t : Int)) (hx : p.tables.exec = Jvm.exec) (hb : c.code = cc) (hg : decode cc pc = .ok (.ifCond .ne off, 3)) : CmdK p l e R s m args below meth c Q x0 s0 met hd d G pc ls st (pIf0 (fun x => decide (¬ x = 0)) t (pc + 3) ls st G) := by
  unfold pIf0
  split
  · rename_i x st9
    refine k_if (fun h0 => ?_) (fun h0 => ?_)
    · have h1 := of_decide_eq_true h0
      exact k_same fun lsA H locs ce sl hl k => lv_if_ne hx hb hg ht (fun _ => k) (fun z => absurd z h1)
    · have h1 : ¬ (¬ x = 0) := fun z => h0 (decide_eq_true z)
      exact k_same fun lsA H locs ce sl hl k => lv_if_ne hx hb hg ht (fun z => absurd z h1) (fun _ => k)
  · exact k_no
theorem k_icmp_ne {off : Int} {t : Nat} (ht : (pc : Int) + off = (t : Int)) (hx : p.tables.exec = Jvm.exec) (hb : c.code = cc) (hg : decode cc pc = .ok (.if_icmp .ne off, 3)) : CmdK p l e R s m args below meth c Q x0 s0 met hd d G pc ls st (pIf2 (fun x y => decide (¬ x = y)) t (pc + 3) ls st G) := by
  unfold pIf2
  split
  · rename_i y x st9
    refine k_if (fun h0 => ?_) (fun h0 => ?_)
    · have h1 := of_decide_eq_true h0
      exact k_same fun lsA H locs ce sl hl k => lv_icmp_ne hx hb hg ht (fun _ => k) (fun z => absurd z h1)
    · have h1 : ¬ (¬ x = y) := fun z => h0 (decide_eq_true z)
      exact k_same fun lsA H locs ce sl hl k => lv_icmp_ne hx hb hg ht (fun z => absurd z h1) (fun _ => k)
  · exact k_no
theorem k_if_lt {off : Int} {t : Nat} (ht : (pc : Int) + off = (t : Int)) (hx : p.tables.exec = Jvm.exec) (hb : c.code = cc) (hg : decode cc pc = .ok (.ifCond .lt off, 3)) : CmdK p l e R s m args below meth c Q x0 s0 met hd d G pc ls st (pIf0 (fun x => decide (x < 0)) t (pc + 3) ls st G) := by
  unfold pIf0
  split
  · rename_i x st9
    refine k_if (fun h0 => ?_) (fun h0 => ?_)
    · have h1 := of_decide_eq_true h0
      exact k_same fun lsA H locs ce sl hl k => lv_if_lt hx hb hg ht (fun _ => k) (fun z => absurd h1 z)
    · have h1 : ¬ (x < 0) := fun z => h0 (decide_eq_true z)
      exact k_same fun lsA H locs ce sl hl k => lv_if_lt hx hb hg ht (fun z => absurd z h1) (fun _ => k)
  · exact k_no
theorem k_icmp_lt {off : Int} {t : Nat} (ht : (pc : Int) + off = (t : Int)) (hx : p.tables.exec = Jvm.exec) (hb : c.code = cc) (hg : decode cc pc = .ok (.if_icmp .lt off, 3)) : CmdK p l e R s m args below meth c Q x0 s0 met hd d G pc ls st (pIf2 (fun x y => decide (x < y)) t (pc + 3) ls st G) := by
  unfold pIf2
  split
  · rename_i y x st9
    refine k_if (fun h0 => ?_) (fun h0 => ?_)
    · have h1 := of_decide_eq_true h0
      exact k_same fun lsA H locs ce sl hl k => lv_icmp_lt hx hb hg ht (fun _ => k) (fun z => absurd h1 z)
    · have h1 : ¬ (x < y) := fun z => h0 (decide_eq_true z)
      exact k_same fun lsA H locs ce sl hl k => lv_icmp_lt hx hb hg ht (fun z => absurd z h1) (fun _ => k)
  · exact k_no
theorem k_if_ge {off : Int} {t : Nat} (ht : (pc : Int) + off = (t : Int)) (hx : p.tables.exec = Jvm.exec) (hb : c.code = cc) (hg : decode cc pc = .ok (.ifCond .ge off, 3)) : CmdK p l e R s m args below meth c Q x0 s0 met hd d G pc ls st (pIf0 (fun x => decide (0 ≤ x)) t (pc + 3) ls st G) := by
  unfold pIf0
  split
  · rename_i x st9
    refine k_if (fun h0 => ?_) (fun h0 => ?_)
    · have h1 := of_decide_eq_true h0
      exact k_same fun lsA H locs ce sl hl k => lv_if_ge hx hb hg ht (fun _ => k) (fun z => absurd h1 z)
    · have h1 : ¬ (0 ≤ x) := fun z => h0 (decide_eq_true z)
      exact k_same fun lsA H locs ce sl hl k => lv_if_ge hx hb hg ht (fun z => absurd z h1) (fun _ => k)
  · exact k_no
theorem k_icmp_ge {off : Int} {t : Nat} (ht : (pc : Int) + off = (t : Int)) (hx : p.tables.exec = Jvm.exec) (hb : c.code = cc) (hg : decode cc pc = .ok (.if_icmp .ge off, 3)) : CmdK p l e R s m args below meth c Q x0 s0 met hd d G pc ls st (pIf2 (fun x y => decide (y ≤ x)) t (pc + 3) ls st G) := by
  unfold pIf2
  split
  · rename_i y x st9
    refine k_if (fun h0 => ?_) (fun h0 => ?_)
    · have h1 := of_decide_eq_true h0
      exact k_same fun lsA H locs ce sl hl k => lv_icmp_ge hx hb hg ht (fun _ => k) (fun z => absurd h1 z)
    · have h1 : ¬ (y ≤ x) := fun z => h0 (decide_eq_true z)
      exact k_same fun lsA H locs ce sl hl k => lv_icmp_ge hx hb hg ht (fun z => absurd z h1) (fun _ => k)
  · exact k_no
theorem k_if_gt {off : Int} {t : Nat} (ht : (pc : Int) + off = (t : Int)) (hx : p.tables.exec = Jvm.exec) (hb : c.code = cc) (hg : decode cc pc = .ok (.ifCond .gt off, 3)) : CmdK p l e R s m args below meth c Q x0 s0 met hd d G pc ls st (pIf0 (fun x => decide (0 < x)) t (pc + 3) ls st G) := by
  unfold pIf0
  split
  · rename_i x st9
    refine k_if (fun h0 => ?_) (fun h0 => ?_)
    · have h1 := of_decide_eq_true h0
      exact k_same fun lsA H locs ce sl hl k => lv_if_gt hx hb hg ht (fun _ => k) (fun z => absurd h1 z)
    · have h1 : ¬ (0 < x) := fun z => h0 (decide_eq_true z)
      exact k_same fun lsA H locs ce sl hl k => lv_if_gt hx hb hg ht (fun z => absurd z h1) (fun _ => k)
  · exact k_no
theorem k_icmp_gt {off : Int} {t : Nat} (ht : (pc : Int) + off = (t : Int)) (hx : p.tables.exec = Jvm.exec) (hb : c.code = cc) (hg : decode cc pc = .ok (.if_icmp .gt off, 3)) : CmdK p l e R s m args below meth c Q x0 s0 met hd d G pc ls st (pIf2 (fun x y => decide (y < x)) t (pc + 3) ls st G) := by
  unfold pIf2
  split
  · rename_i y x st9
    refine k_if (fun h0 => ?_) (fun h0 => ?_)
    · have h1 := of_decide_eq_true h0
      exact k_same fun lsA H locs ce sl hl k => lv_icmp_gt hx hb hg ht (fun _ => k) (fun z => absurd h1 z)
    · have h1 : ¬ (y < x) := fun z => h0 (decide_eq_true z)
      exact k_same fun lsA H locs ce sl hl k => lv_icmp_gt hx hb hg ht (fun z => absurd z h1) (fun _ => k)
  · exact k_no
theorem k_if_le {off : Int} {t : Nat} (ht : (pc : Int) + off = (t : Int)) (hx : p.tables.exec = Jvm.exec) (hb : c.code = cc) (hg : decode cc pc = .ok (.ifCond .le off, 3)) : CmdK p l e R s m args below meth c Q x0 s0 met hd d G pc ls st (pIf0 (fun x => decide (x ≤ 0)) t (pc + 3) ls st G) := by
  unfold pIf0
  split
  · rename_i x st9
    refine k_if (fun h0 => ?_) (fun h0 => ?_)
    · have h1 := of_decide_eq_true h0
      exact k_same fun lsA H locs ce sl hl k => lv_if_le hx hb hg ht (fun _ => k) (fun z => absurd h1 z)
    · have h1 : ¬ (x ≤ 0) := fun z => h0 (decide_eq_true z)
      exact k_same fun lsA H locs ce sl hl k => lv_if_le hx hb hg ht (fun z => absurd z h1) (fun _ => k)
  · exact k_no
theorem k_icmp_le {off : Int} {t : Nat} (ht : (pc : Int) + off = (t : Int)) (hx : p.tables.exec = Jvm.exec) (hb : c.code = cc) (hg : decode cc pc = .ok (.if_icmp .le off, 3)) : CmdK p l e R s m args below meth c Q x0 s0 met hd d G pc ls st (pIf2 (fun x y => decide (x ≤ y)) t (pc + 3) ls st G) := by
  unfold pIf2
  split
  · rename_i y x st9
    refine k_if (fun h0 => ?_) (fun h0 => ?_)
    · have h1 := of_decide_eq_true h0
      exact k_same fun lsA H locs ce sl hl k => lv_icmp_le hx hb hg ht (fun _ => k) (fun z => absurd h1 z)
    · have h1 : ¬ (x ≤ y) := fun z => h0 (decide_eq_true z)
      exact k_same fun lsA H locs ce sl hl k => lv_icmp_le hx hb hg ht (fun z => absurd z h1) (fun _ => k)
  · exact k_no
theorem k_ifnull {off : Int} {t : Nat} (ht : (pc : Int) + off = (t : Int)) (hx : p.tables.exec = Jvm.exec) (hb : c.code = cc) (hg : decode cc pc = .ok (.ifnull off, 3)) : CmdK p l e R s m args below meth c Q x0 s0 met hd d G pc ls st (pIfN t (pc + 3) ls st G) := by
  unfold pIfN
  split
  · exact k_same fun lsA H locs ce sl hl k => lv_ifnullN hx hb hg ht k
  · exact k_same fun lsA H locs ce sl hl k => lv_ifnull hx hb hg k
  · exact k_no
theorem k_ifnonnull {off : Int} {t : Nat} (ht : (pc : Int) + off = (t : Int)) (hx : p.tables.exec = Jvm.exec) (hb : c.code = cc) (hg : decode cc pc = .ok (.ifnonnull off, 3)) : CmdK p l e R s m args below meth c Q x0 s0 met hd d G pc ls st (pIfN (pc + 3) t ls st G) := by
  unfold pIfN
  split
  · exact k_same fun lsA H locs ce sl hl k => lv_ifnonnullN hx hb hg k
  · exact k_same fun lsA H locs ce sl hl k => lv_ifnonnull hx hb hg ht k
  · exact k_no
end KSD

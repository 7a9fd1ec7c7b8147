/-! SOUNDNESS: what a heap of the pure machine says of the machine's heap; what an instruction owes -/
/-- the classes by their tags: name, fields; arrays' element types by their tags -/
def cNm (t : Nat) : String := (["", "BallotBus", "BallotBus$Tally$1", "BallotBus$Tally$2", "BallotBus$Tally$3", "BallotBus$Setup", "BallotBus$Bus", "BallotBus$Sheet", "BallotBusModel", "BallotBus$Parser", "BallotBus$ParseException", "BallotBus$Request", "BallotBus$ByMeasure", "java/util/ArrayList", "java/lang/StringBuilder", "java/lang/String", "java/util/TreeMap", "java/lang/Integer", "java/util/TreeMap$Entry", "java/util/ImmutableCollections$ListN", "java/util/BitSet", "java/util/ArrayList$Itr", "java/util/PriorityQueue", "java/lang/IndexOutOfBoundsException", "java/lang/IllegalArgumentException", "java/lang/IllegalStateException", "java/util/NoSuchElementException"] : List String).getD t ""
def aTy (t : Nat) : FieldType := ([FieldType.int, .long, .byte, .double, .boolean, .char, .int, .int, .int, .int, .object "java/lang/Object", .object "BallotBus$Measure", .object "BallotBus$Tally", .object "java/lang/String"] : List FieldType).getD (t - 100) .int
/-- a field's value by its descriptor; an element's by the array's tag -/
def fval (G : Hp) (a k : Nat) (ty : FieldType) : Value := match ty with
  | .object _ => va_rf (gR G a k)
  | .array _ => va_rf (gR G a k)
  | .long => .long (gJ G a k)
  | _ => .int (gI G a k)
def aval (G : Hp) (a j : Nat) (t : Nat) : Value := if 110 ≤ t then va_rf (gR G a j) else if t = 101 then .long (gJ G a j) else if t = 103 then .double (gJ G a j).toUInt64 else .int (gI G a j)
/-- a class at a state: its fields are found, at these slots -/
def kC (s : State) (C : String) (T : u_T) (N : Nat) (cC : ClassId) (iS : Nat → Nat) : Prop :=
  (∀ k, k < N → ∃ cf kf fi fd, s.fieldFound? (T k).1 (T k).2.1 (T k).2.2.1 = some (cf, kf, fi, fd) ∧ fd.slot = iS k ∧ fd.isStatic = false) ∧ s.vm.findClass C = some cC ∧ (∃ kc : Class, s.vm.classes[cC]? = some kc) ∧ ∀ j k, j < N → k < N → j ≠ k → iS j ≠ iS k
def kA (s : State) (c : ClassId) (ty : FieldType) : Prop := s.vm.findClass ("[" ++ ty.toString) = some c ∧ ∃ (k : Class) (comp : ClassId), s.vm.classes[c]? = some k ∧ k.kind = .array comp ty ∧ match ty with
  | .object C => s.vm.findClass C = some comp
  | _ => True
theorem kC.moved {u U : State} {C : String} {T : u_T} {N : Nat} {cC : ClassId} {iS : Nat → Nat} (hvm : u.vm.Alike U.vm) (h : kC u C T N cC iS) : kC U C T N cC iS := by
  obtain ⟨h1, h2, ⟨kc, h3⟩, h4⟩ := h
  refine ⟨fun k hk => ?_, by rw [hvm.findClass]; exact h2, ?_, h4⟩
  · obtain ⟨cf, kf, fi, fd, q1, q2, q3⟩ := h1 k hk
    obtain ⟨k', hi', -⟩ := State.fieldFound?_setVm hvm q1
    exact ⟨cf, k', fi, fd, hi', q2, q3⟩
  · obtain ⟨k', hk', -⟩ := hvm.2.2 _ _ h3
    exact ⟨k', hk'⟩
theorem kA.moved {u U : State} {c : ClassId} {ty : FieldType} (hvm : u.vm.Alike U.vm) (h : kA u c ty) : kA U c ty := by
  obtain ⟨h1, k, comp, h2, h3, h4⟩ := h
  obtain ⟨k', hk', he⟩ := hvm.2.2 _ _ h2
  refine ⟨by rw [hvm.findClass]; exact h1, k', comp, hk', by rw [he]; exact h3, ?_⟩
  cases ty <;> first | trivial | (show U.vm.findClass _ = _; rw [hvm.findClass]; exact h4)
/-- which tags are classes of ours, which are arrays of ours -/
def tcl (t : Nat) : Bool := decide (1 ≤ t) && decide (t ≤ 26)
def tar (t : Nat) : Bool := (decide (100 ≤ t) && decide (t ≤ 103)) || (decide (110 ≤ t) && decide (t ≤ 113))
/-- the cell at a is what the pure heap says -/
def cellK (D : va_G) (cA : Nat → ClassId) (G : Hp) (H : Heap) (a : Nat) : Prop :=
  gT G a = 0 ∨ ∃ cell : Cell, H[a]? = some cell ∧ cell.vm.isStatics = false ∧ cell.vm ≠ .unknown ∧ (gB G ≤ a → cell.vm = .none) ∧
    ((tcl (gT G a) = true ∧ cell.cls = D.1 (gT G a) ∧ ∀ k, k < cL (gT G a) → cell.slots[D.2 (gT G a) k]? = some (fval G a k (cTy (gT G a) k))) ∨
     (tar (gT G a) = true ∧ cell.cls = cA (gT G a) ∧ cell.slots.size = gN G a ∧ ∀ j, j < gN G a → cell.slots[j]? = some (aval G a j (gT G a))) ∨
     (tlm (gT G a) = true ∧ cell.cls = gA G (200 + gT G a) ∧ ∀ k, k < lmL (gT G a) → cell.slots[k]? = some (fval G a k (lmTy (gT G a) k))))
/-- the classes as the tables have them -/
def KK (D : va_G) (cA : Nat → ClassId) (s : State) : Prop := (∀ t, tcl t = true → kC s (cNm t) (cT t) (cL t) (D.1 t) (D.2 t)) ∧ ∀ t, tar t = true → kA s (cA t) (aTy t)
theorem KK.moved {D : va_G} {cA : Nat → ClassId} {u U : State} (hvm : u.vm.Alike U.vm) (h : KK D cA u) : KK D cA U := ⟨fun t ht => (h.1 t ht).moved hvm, fun t ht => (h.2 t ht).moved hvm⟩
/-- nobody writes below the base -/
def Abv (G : Hp) : Nat → Prop := fun q => gB G ≤ q
/-- the cache of small Integers: its cell is never written -/
def intK (s : State) (H : Heap) (G : Hp) : Prop := gA G jcI < gB G ∧ ∃ (cell : Cell) (k : Class) (comp : ClassId), H[gA G jcI]? = some cell ∧ cell.vm.isStatics = false ∧ cell.vm ≠ .unknown ∧ s.vm.classes[cell.cls]? = some k ∧ k.kind = .array comp (.object "java/lang/Integer") ∧ cell.slots.size = 256 ∧ ∀ j, j < 256 → cell.slots[j]? = some (.ref (gA G (1000 + j)))
theorem intK.moved {u U : State} {H : Heap} {G : Hp} (hvm : u.vm.Alike U.vm) (h : intK u H G) : intK U H G := by
  obtain ⟨h1, cell, k, comp, q1, q2, q3, q4, q5, q6⟩ := h
  obtain ⟨k', hk', he⟩ := hvm.2.2 _ _ q4
  exact ⟨h1, cell, k', comp, q1, q2, q3, hk', by rw [he]; exact q5, q6⟩
theorem intK.kept {U : State} {H H1 : Heap} {G : Hp} (h : intK U H G) (hq : ∀ a : Nat, a < H.size → ¬ Abv G a → H1[a]? = H[a]?) : intK U H1 G := by
  obtain ⟨h1, cell, k, comp, q1, q⟩ := h
  refine ⟨h1, cell, k, comp, ?_, q⟩
  rw [hq _ (Array.getElem?_eq_some_iff.mp q1).1 (fun z => by unfold Abv at z; omega)]
  exact q1
def statK (s : State) (H : Heap) (G : Hp) : Prop := (∀ q ∈ sRef, va_Z q.2.1 q.2.2.1 q.2.2.2 (.ref (gA G q.1)) (Abv G) s H) ∧ (∀ q ∈ sInt, va_Z q.1 q.2.1 q.2.2.1 (.int q.2.2.2) (Abv G) s H) ∧ (∀ q ∈ sQ, va_Z q.2.1 q.2.2.1 q.2.2.2 (oQ (gA G q.1)) (Abv G) s H) ∧ vx_Zq Bundle.tN "UNASSIGNED_STACK" Bundle.steD (Abv G) s H ∧ vx_Zq Bundle.tN "SUPPRESSED_SENTINEL" Bundle.listD (Abv G) s H ∧ intK s H G
theorem statK.moved {u U : State} {H : Heap} {G : Hp} (hvm : u.vm.Alike U.vm) (h : statK u H G) : statK U H G := ⟨fun q hq => va_Z.moved hvm (h.1 q hq), fun q hq => va_Z.moved hvm (h.2.1 q hq), fun q hq => va_Z.moved hvm (h.2.2.1 q hq), vx_Zq.moved hvm h.2.2.2.1, vx_Zq.moved hvm h.2.2.2.2.1, h.2.2.2.2.2.moved hvm⟩
theorem statK.kept {U : State} {H H1 : Heap} {G : Hp} (h : statK U H G) (hq : ∀ a : Nat, a < H.size → ¬ Abv G a → H1[a]? = H[a]?) : statK U H1 G := ⟨fun q hz => (h.1 q hz).kept hq, fun q hz => (h.2.1 q hz).kept hq, fun q hz => (h.2.2.1 q hz).kept hq, h.2.2.2.1.kept hq, h.2.2.2.2.1.kept hq, h.2.2.2.2.2.kept hq⟩
/-- a lambda's site, linked -/
def lamS (s : State) (t : Nat) (c : ClassId) (one : Nat) : Prop := ∃ m k i0 p0 cf, s.methodNamed? (lm4 t).1 = some m ∧ s.vm.classes[m.cls]? = some k ∧ k.cf = some cf ∧ Lambda.shapeOf? cf (lm4 t).2.2.1 = some (lm4 t).2.2.2 ∧ (k.callSites.find? fun y => y.1 == m.idx && y.2.1 == (lm4 t).2.1) = some (i0, p0, if t ≤ 28 then .constant one else .makes c)
theorem lamS.moved {u U : State} {t : Nat} {c : ClassId} {one : Nat} (hvm : u.vm.Alike U.vm) (h : lamS u t c one) : lamS U t c one := by
  obtain ⟨m, k, i0, p0, cf, h1, h2, h4, h5, h3⟩ := h
  obtain ⟨k', hk', he⟩ := hvm.2.2 _ _ h2
  refine ⟨m, k', i0, p0, cf, ?_, hk', by rw [he]; exact h4, h5, by rw [he]; exact h3⟩
  have := State.methodNamed?_setVm (s := u) hvm (lm4 t).1
  rw [h1] at this
  exact this
/-- the interface's method -/
def lmD (s : State) (t : Nat) : Prop := ∃ (r0 : MethodId) (r : Method) (cI : ClassId) (kI : Class), s.methodNamed? ⟨lmIf t, lmNm t, lmDs t⟩ = some r0 ∧ s.vm.method? r0 = some r ∧ r.isStatic = false ∧ parseMethodDescriptor (lmDs t) = some r.sig ∧ s.vm.findClass (lmIf t) = some cI ∧ s.vm.classes[cI]? = some kI ∧ kI.isInterface = true
theorem lmD.moved {u U : State} {t : Nat} (hvm : u.vm.Alike U.vm) (h : lmD u t) : lmD U t := by
  obtain ⟨r0, r, cI, kI, h1, h2, h3, h4, h5, h6, h7⟩ := h
  obtain ⟨k', hk', he⟩ := hvm.2.2 _ _ h6
  refine ⟨r0, r, cI, k', ?_, by rw [hvm.method?]; exact h2, h3, h4, by rw [hvm.findClass]; exact h5, hk', ?_⟩
  · have := State.methodNamed?_setVm (s := u) hvm ⟨lmIf t, lmNm t, lmDs t⟩
    rw [h1] at this
    exact this
  · have : k'.isInterface = kI.isInterface := by rw [he]; rfl
    rw [this]
    exact h7
def lamK (s : State) (G : Hp) : Prop := ∀ t, tlm t = true → lamF s t (gA G (200 + t)) ∧ lamS s t (gA G (200 + t)) (gA G (300 + t)) ∧ lmD s t
def strK (s : State) (G : Hp) : Prop := ((∀ q ∈ sStr, vk_R q.2.1 q.2.2.1 q.2.2.2 (gA G q.1) s) ∧ ∀ q ∈ sMir, va_Mi q.2 (gA G q.1) s) ∧ lamK s G
theorem strK.same {s U : State} {G : Hp} (e : s.vm = U.vm) (hq : ∀ q ∈ sStr, vk_R q.2.1 q.2.2.1 q.2.2.2 (gA G q.1) s → vk_R q.2.1 q.2.2.1 q.2.2.2 (gA G q.1) U) (h : strK s G) : strK U G := ⟨⟨fun q hm => hq q hm (h.1.1 q hm), fun q hm => (h.1.2 q hm).moved (by rw [e]; exact Vm.Alike.refl _)⟩, fun t ht => ⟨(h.2 t ht).1.same e, (h.2 t ht).2.1.moved (by rw [e]; exact Vm.Alike.refl _), (h.2 t ht).2.2.moved (by rw [e]; exact Vm.Alike.refl _)⟩⟩
theorem strK.warm {s U : State} {G : Hp} (hW : s.WarmedH U.vm) (hq : ∀ q ∈ sStr, vk_R q.2.1 q.2.2.1 q.2.2.2 (gA G q.1) s → vk_R q.2.1 q.2.2.1 q.2.2.2 (gA G q.1) U) (h : strK s G) : strK U G := ⟨⟨fun q hm => hq q hm (h.1.1 q hm), fun q hm => (h.1.2 q hm).moved hW.alike⟩, fun t ht => ⟨(h.2 t ht).1.warm hW, (h.2 t ht).2.1.moved hW.alike, (h.2 t ht).2.2.moved hW.alike⟩⟩
/-- the constants of a heap -/
def gK (G : Hp) : Nat × (Nat → Nat) := G.2.2.2.2.2.2.2
/-- heap and classes -/
def HpA (s : State) (H : Heap) (G : Hp) : Prop := gX G = H.size ∧ gB G ≤ gX G ∧ (∃ D cA, KK D cA s ∧ ∀ a, cellK D cA G H a) ∧ (∀ a, gX G ≤ a → gT G a = 0) ∧ statK s H G
theorem HpA.moved {u U : State} {H : Heap} {G : Hp} (hvm : u.vm.Alike U.vm) (h : HpA u H G) : HpA U H G := by
  obtain ⟨h1, h2, ⟨D, cA, h3, h4⟩, h5, h6⟩ := h
  exact ⟨h1, h2, ⟨D, cA, h3.moved hvm, h4⟩, h5, h6.moved hvm⟩
/-- the locals -/
def prs (ls : List Value) : List (Nat × Value) := (List.range ls.length).filterMap fun i => if ls.getD i UV = UV then none else some (i, ls.getD i UV)
def LsOK (lsA : Array Slot) (nL : Nat) (ls : List Value) : Prop := ls.length = nL ∧ lv_has lsA nL (prs ls)
theorem prs_mem {ls : List Value} {q : Nat × Value} : q ∈ prs ls ↔ q.1 < ls.length ∧ ls.getD q.1 UV = q.2 ∧ q.2 ≠ UV := by
  unfold prs
  rw [List.mem_filterMap]
  constructor
  · rintro ⟨i, hi, h⟩
    split at h
    · cases h
    · rename_i hn
      cases h
      exact ⟨List.mem_range.mp hi, rfl, hn⟩
  · rintro ⟨h1, h2, h3⟩
    refine ⟨q.1, List.mem_range.mpr h1, ?_⟩
    rw [h2, if_neg h3]
theorem LsOK.at {lsA : Array Slot} {nL i : Nat} {ls : List Value} {v : Value} (h : LsOK lsA nL ls) (hi : ls.getD i UV = v) (hv : v ≠ UV) : lsA[i]? = some (.val v) := by
  refine h.2.2.2 (i, v) (prs_mem.mpr ⟨?_, hi, hv⟩)
  by_cases q : i < ls.length
  · exact q
  · exfalso
    apply hv
    rw [← hi, List.getD_eq_getElem?_getD, List.getElem?_eq_none (Nat.not_lt.mp q)]
    rfl
theorem LsOK.sz {lsA : Array Slot} {nL : Nat} {ls : List Value} (h : LsOK lsA nL ls) : lsA.size = nL := h.2.1
theorem LsOK.of {lsA : Array Slot} {nL : Nat} {ls : List Value} {l : List (Nat × Value)} (hl : ls.length = nL) (h : lv_has lsA nL l) (hs : ∀ q ∈ prs ls, q ∈ l) : LsOK lsA nL ls := ⟨hl, h.1, h.2.1, fun q hq => h.2.2 q (hs q hq)⟩
theorem getD_set {ls : List Value} {i j : Nat} {v : Value} (hi : i < ls.length) : (ls.set i v).getD j UV = if j = i then v else ls.getD j UV := by
  rw [List.getD_eq_getElem?_getD, List.getD_eq_getElem?_getD]
  by_cases e : j = i
  · subst e
    rw [if_pos rfl, List.getElem?_set_self hi]
    rfl
  · rw [if_neg e, List.getElem?_set_ne (Ne.symm e)]
theorem LsOK.set1 {lsA' : Array Slot} {nL i : Nat} {ls ls' : List Value} {v : Value} (hl : ls.length = nL) (hs : lset1 ls i v = some ls') (h : lv_has lsA' nL ((i, v) :: (prs ls).filter (fun q => !(q.1 == i) && !(q.1 + 1 == i && q.2.category == 2)))) : LsOK lsA' nL ls' := by
  unfold lset1 at hs
  split at hs
  · rename_i hc
    cases hs
    simp only [Bool.and_eq_true, decide_eq_true_eq] at hc
    obtain ⟨hi, hc⟩ := hc
    refine LsOK.of (by rw [List.length_set]; exact hl) h ?_
    intro q hq
    obtain ⟨q1, q2, q3⟩ := prs_mem.mp hq
    rw [List.length_set] at q1
    rw [getD_set hi] at q2
    by_cases e : q.1 = i
    · rw [if_pos e] at q2
      refine List.mem_cons.mpr (Or.inl ?_)
      obtain ⟨a, b⟩ := q
      simp only at e q2
      subst e
      subst q2
      rfl
    · rw [if_neg e] at q2
      refine List.mem_cons_of_mem _ (List.mem_filter.mpr ⟨prs_mem.mpr ⟨q1, q2, q3⟩, ?_⟩)
      simp only [Bool.and_eq_true, Bool.not_eq_true', beq_eq_false_iff_ne, ne_eq, Bool.and_eq_false_iff]
      refine ⟨e, ?_⟩
      by_cases e2 : q.1 + 1 = i
      · refine Or.inr ?_
        rw [← e2, Nat.add_sub_cancel, q2] at hc
        rw [c1_cat hc]
        decide
      · exact Or.inl e2
  · cases hs
theorem LsOK.set2 {lsA' : Array Slot} {nL i : Nat} {ls ls' : List Value} {v : Value} (hl : ls.length = nL) (hs : lset2 ls i v = some ls') (h : lv_has lsA' nL ((i, v) :: (prs ls).filter (fun q => !(q.1 == i) && (!(q.1 == i + 1) && !(q.1 + 1 == i && q.2.category == 2))))) : LsOK lsA' nL ls' := by
  unfold lset2 at hs
  split at hs
  · rename_i hc
    cases hs
    simp only [Bool.and_eq_true, decide_eq_true_eq] at hc
    obtain ⟨hi, hc⟩ := hc
    refine LsOK.of (by rw [List.length_set, List.length_set]; exact hl) h ?_
    intro q hq
    obtain ⟨q1, q2, q3⟩ := prs_mem.mp hq
    rw [List.length_set, List.length_set] at q1
    rw [getD_set (by rw [List.length_set]; exact hi), getD_set (by omega)] at q2
    by_cases e1 : q.1 = i + 1
    · rw [if_pos e1] at q2
      exact absurd q2.symm q3
    · rw [if_neg e1] at q2
      by_cases e : q.1 = i
      · rw [if_pos e] at q2
        refine List.mem_cons.mpr (Or.inl ?_)
        obtain ⟨a, b⟩ := q
        simp only at e q2
        subst e
        subst q2
        rfl
      · rw [if_neg e] at q2
        refine List.mem_cons_of_mem _ (List.mem_filter.mpr ⟨prs_mem.mpr ⟨q1, q2, q3⟩, ?_⟩)
        simp only [Bool.and_eq_true, Bool.not_eq_true', beq_eq_false_iff_ne, ne_eq, Bool.and_eq_false_iff]
        refine ⟨e, e1, ?_⟩
        by_cases e2 : q.1 + 1 = i
        · refine Or.inr ?_
          rw [← e2, Nat.add_sub_cancel, q2] at hc
          rw [c1_cat hc]
          decide
        · exact Or.inl e2
  · cases hs
/-- the tables' words that don't ride: classes that may be cast, that may not, nest mates' links, arrays of references, methods of interfaces -/
def TK (s : State) : Prop := (∀ q ∈ tkC, va_Nw (.castable q.1 q.2) s) ∧ (∀ q ∈ tkN, va_Nc q.1 q.2 s) ∧ (∀ q ∈ tkFN, va_Nw (.fieldLinkNest q.1 q.2.1 q.2.2.1 q.2.2.2.1 q.2.2.2.2.1 q.2.2.2.2.2) s) ∧ (∀ q ∈ tkMN, va_Nw (.methodLinkNest q.1 q.2.1 q.2.2.1 q.2.2.2) s) ∧ (∀ C ∈ tkAO, va_AO C s) ∧ (∀ q ∈ tkF, (q.2.1.cls ≠ "java/lang/invoke/MethodHandle" ∧ q.2.1.cls ≠ "java/lang/invoke/VarHandle") ∧ va_Fw q.1 q.2.1 q.2.2 s) ∧ (∀ x ∈ tkD, va_Nw (.declares x) s) ∧ (∀ w ∈ tkW, w.onTables = true ∧ goodWord w = true ∧ va_Nw w s) ∧ ∀ y ∈ tkP, va_Nw (.privateMethod y) s
theorem TK.warm {s U : State} (hW : s.WarmedH U.vm) (h : TK s) : TK U := ⟨fun q hq => va_Nw.warmC hW (h.1 q hq), fun q hq => (h.2.1 q hq).moved hW.alike, fun q hq => va_Nw.warmF hW (h.2.2.1 q hq), fun q hq => va_Nw.warmM hW (h.2.2.2.1 q hq), fun q hq => (h.2.2.2.2.1 q hq).moved hW.alike, fun q hq => ⟨(h.2.2.2.2.2.1 q hq).1, va_Fw.moved (h.2.2.2.2.2.1 q hq).1 hW.alike (h.2.2.2.2.2.1 q hq).2⟩, fun q hq => va_Nw.warmD hW (h.2.2.2.2.2.2.1 q hq), fun w hw => ⟨(h.2.2.2.2.2.2.2.1 w hw).1, (h.2.2.2.2.2.2.2.1 w hw).2.1, word_at hW (good_of_word (h.2.2.2.2.2.2.2.1 w hw).2.1) (h.2.2.2.2.2.2.2.1 w hw).2.2⟩, fun y hy => va_Nw.same rfl (show (s.setVm U.vm).vm = U.vm from rfl) ((Cond.privateMethod_setVm hW.alike y).trans (h.2.2.2.2.2.2.2.2 y hy))⟩
theorem TK.same {s U : State} (e : s.vm = U.vm) (h : TK s) : TK U := ⟨fun q hq => va_Nw.same rfl e (h.1 q hq), fun q hq => (h.2.1 q hq).moved (by rw [e]; exact Vm.Alike.refl _), fun q hq => va_Nw.same rfl e (h.2.2.1 q hq), fun q hq => va_Nw.same rfl e (h.2.2.2.1 q hq), fun q hq => (h.2.2.2.2.1 q hq).moved (by rw [e]; exact Vm.Alike.refl _), fun q hq => ⟨(h.2.2.2.2.2.1 q hq).1, va_Fw.moved (h.2.2.2.2.2.1 q hq).1 (by rw [e]; exact Vm.Alike.refl _) (h.2.2.2.2.2.1 q hq).2⟩, fun q hq => va_Nw.same rfl e (h.2.2.2.2.2.2.1 q hq), fun w hw => ⟨(h.2.2.2.2.2.2.2.1 w hw).1, (h.2.2.2.2.2.2.2.1 w hw).2.1, va_Nw.same (h.2.2.2.2.2.2.2.1 w hw).1 e (h.2.2.2.2.2.2.2.1 w hw).2.2⟩, fun y hy => va_Nw.same rfl e (h.2.2.2.2.2.2.2.2 y hy)⟩
/-- what a method of a type returns -/
def okRet : Option FieldType → Option Value → Prop
  | some .int, some (.int _) => True
  | some .int, _ => False
  | none, none => True
  | none, some _ => False
  | _, _ => True
def TyO (r : Option FieldType) (o : Out) : Prop := ∀ v, o = .inl v → okRet r v
/-- contracts -/
def RM (d mc ms : Nat) : Room := { frames := 2 * d + 20, cells := mc, slots := ms, locals := 260 * d + 4000 }
def zPc (as : List Value) (G : Hp) : Array Value → State → Prop := fun v U => v = as.toArray ∧ HpA U U.heap G ∧ strK U G ∧ TK U
def zQc (o : Out) (G' : Hp) : Array Value → State → Outcome → State → Prop := fun _ _ oc t => ∃ v, o = .inl v ∧ oc = .returned v ∧ HpA t t.heap G'
def zXC (o : Out) (G' : Hp) : String → Addr → State → State → Prop := fun E q _ t => o = .inr q ∧ HpA t t.heap G' ∧ cNm (gT G' q) = E ∧ tex (gT G' q) = true ∧ gB G' ≤ q
def zMet (l : Launch) (y : MethodName) (ws : List Cond) (d : Nat) (as : List Value) (G : Hp) (o : Out) (G' : Hp) : Prop :=
  zR l y ws (RM d (gX G' - gX G) (gS G' - gS G)) (zPc as G) (vx_Q (zQc o G') (zXC o G') (gX G' - gX G) (gS G' - gS G) (Abv G))
section SND
variable (p : Program) (l : Launch) (e : Env) (R : Room) (s : State) (m : MethodId) (args : Array Value) (below : List Frame) (meth : Method) (c : Code) (Q : State → Prop) (x0 s0 : Nat)
/-- from this point of the pure run, whatever heap and locals say the same, the machine comes to Q -/
def WW (G : Hp) (pc : Nat) (ls st : List Value) : Prop :=
  ∀ (lsA : Array Slot) (H : Heap) (locs : List Loc), LsOK lsA c.maxLocals ls → HpA s H G → strK s G → (∀ q ∈ locs, gB G ≤ q.base) → x0 ≤ gX G → s0 ≤ gS G → W p l e R s m args below meth c H locs (gX G - x0) (gS G - s0) Q (F0 m pc lsA st)
def FinK (o : Out) (G' : Hp) : Prop := R.cells = gX G' - x0 ∧ R.slots = gS G' - s0 ∧ Q = vx_MQ below (zQc o G') (zXC o G') args s R.cells R.slots (Abv G')
/-- where a is thrown at pc: a handler of this method takes it, or it leaves the method -/
def Exc (hd : Nat → Option Nat) (G' : Hp) (ls : List Value) (a : Nat) : Prop :=
  (hd (gT G' a) = none ∧ FinK R s args below Q x0 s0 (.inr a) G') ∨ ∃ h, hd (gT G' a) = some h ∧ WW p l e R s m args below meth c Q x0 s0 G' h ls [.ref a]
def grows (G G' : Hp) : Prop := gK G' = gK G ∧ gX G ≤ gX G' ∧ gS G ≤ gS G'
/-- what an instruction's answer owes; met: the callees' contracts; hd: the handlers at this pc -/
def CmdK (met : Nat → Nat → List Value → Hp → Out → Hp → Prop) (hd : Nat → Option Nat) (d : Nat) (G : Hp) (pc : Nat) (ls st : List Value) : Cmd → Prop
  | none => True
  | some (.inl (pc', ls', st', G')) => grows G G' → gX G' - x0 ≤ R.cells → gS G' - s0 ≤ R.slots → WW p l e R s m args below meth c Q x0 s0 G' pc' ls' st' → WW p l e R s m args below meth c Q x0 s0 G pc ls st
  | some (.inr (.inl (y', as, pc', st'))) => ∀ (d' : Nat) (o : Out) (G' : Hp), d = d' + 1 → grows G G' → gX G' - x0 ≤ R.cells → gS G' - s0 ≤ R.slots → met d' y' as G o G' →
      (match o with
        | .inl v => WW p l e R s m args below meth c Q x0 s0 G' pc' ls (v.toList ++ st')
        | .inr a => Exc p l e R s m args below meth c Q x0 s0 hd G' ls a) → WW p l e R s m args below meth c Q x0 s0 G pc ls st
  | some (.inr (.inr (.inl v))) => FinK R s args below Q x0 s0 (.inl v) G → WW p l e R s m args below meth c Q x0 s0 G pc ls st
  | some (.inr (.inr (.inr (a, G')))) => grows G G' → gX G' - x0 ≤ R.cells → gS G' - s0 ≤ R.slots → Exc p l e R s m args below meth c Q x0 s0 hd G' ls a → WW p l e R s m args below meth c Q x0 s0 G pc ls st
end SND

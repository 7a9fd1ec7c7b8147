/-! what each instruction owes: switches, returns, fields, arrays, new objects, casts, constants -/
theorem gB_gK {G G' : Hp} (h : gK G' = gK G) : gB G' = gB G := congrArg Prod.fst h
theorem gA_gK {G G' : Hp} (h : gK G' = gK G) : gA G' = gA G := congrArg Prod.snd h
theorem tcl_tar {t : Nat} (h : tcl t = true) (h2 : tar t = true) : False := by
  simp only [tcl, tar, Bool.and_eq_true, Bool.or_eq_true, decide_eq_true_eq] at h h2
  omega
theorem tcl_tlm {t : Nat} (h : tcl t = true) (h2 : tlm t = true) : False := by
  simp only [tcl, tlm, Bool.and_eq_true, decide_eq_true_eq] at h h2
  omega
theorem tar_tlm {t : Nat} (h : tar t = true) (h2 : tlm t = true) : False := by
  simp only [tar, tlm, Bool.and_eq_true, Bool.or_eq_true, decide_eq_true_eq] at h h2
  omega
theorem tlm_0 : ¬ tlm 0 = true := by decide
theorem tcl_0 : ¬ tcl 0 = true := by decide
theorem tar_0 : ¬ tar 0 = true := by decide
theorem cellK.to {D : va_G} {cA : Nat → ClassId} {G G' : Hp} {H H' : Heap} {q : Nat} (h : cellK D cA G H q) (hK : gK G' = gK G) (hT : gT G' q = gT G q) (hN : gN G' q = gN G q) (hI : ∀ k, gI G' q k = gI G q k) (hJ : ∀ k, gJ G' q k = gJ G q k) (hR : ∀ k, gR G' q k = gR G q k) (hH : H'[q]? = H[q]?) : cellK D cA G' H' q := by
  have ef : ∀ k ty, fval G' q k ty = fval G q k ty := fun k ty => by cases ty <;> simp [fval, hI, hJ, hR]
  have ea : ∀ k t, aval G' q k t = aval G q k t := fun k t => by simp [aval, hI, hJ, hR]
  unfold cellK at h ⊢
  rw [hT, hN, gB_gK hK, hH]
  rcases h with h | ⟨cell, h1, h2, h3, h4, h5⟩
  · exact Or.inl h
  · refine Or.inr ⟨cell, h1, h2, h3, h4, ?_⟩
    rcases h5 with ⟨a1, a2, a3⟩ | ⟨a1, a2, a3, a4⟩ | ⟨a1, a2, a3⟩
    · exact Or.inl ⟨a1, a2, fun k hk => by rw [ef]; exact a3 k hk⟩
    · exact Or.inr (Or.inl ⟨a1, a2, a3, fun j hj => by rw [ea]; exact a4 j hj⟩)
    · exact Or.inr (Or.inr ⟨a1, by rw [gA_gK hK]; exact a2, fun k hk => by rw [ef]; exact a3 k hk⟩)
theorem statK.gk {s : State} {H : Heap} {G G' : Hp} (h : statK s H G) (hK : gK G' = gK G) : statK s H G' := by
  have e : Abv G' = Abv G := by unfold Abv; rw [gB_gK hK]
  unfold statK intK at h ⊢
  rw [e, gA_gK hK, gB_gK hK]
  exact h
theorem strK.gk {s : State} {G G' : Hp} (h : strK s G) (hK : gK G' = gK G) : strK s G' := by
  unfold strK lamK at h ⊢
  rw [gA_gK hK]
  exact h
/-- one cell above the base is written -/
theorem HpA.put {s : State} {H H' : Heap} {G G' : Hp} {a : Nat} (h : HpA s H G) (hK : gK G' = gK G) (hX : gX G' = gX G) (hT : gT G' = gT G) (hN : gN G' = gN G) (hI : ∀ q k, q ≠ a → gI G' q k = gI G q k) (hJ : ∀ q k, q ≠ a → gJ G' q k = gJ G q k) (hR : ∀ q k, q ≠ a → gR G' q k = gR G q k)
    (hz : H'.size = H.size) (ho : ∀ q, q ≠ a → H'[q]? = H[q]?) (hb : gB G ≤ a) (hc : ∀ D cA, KK D cA s → cellK D cA G H a → cellK D cA G' H' a) : HpA s H' G' := by
  obtain ⟨h1, h2, ⟨D, cA, h3, h4⟩, h5, h6⟩ := h
  refine ⟨by rw [hX, hz]; exact h1, by rw [gB_gK hK, hX]; exact h2, ⟨D, cA, h3, fun q => ?_⟩, fun q hq => by rw [hT]; exact h5 q (by rw [← hX]; exact hq), (h6.kept (fun q _ hn => ho q (fun e => hn (by rw [e]; exact hb)))).gk hK⟩
  by_cases e : q = a
  · subst e
    exact hc D cA h3 (h4 q)
  · exact (h4 q).to hK (by rw [hT]) (by rw [hN]) (fun k => hI q k e) (fun k => hJ q k e) (fun k => hR q k e) (ho q e)
/-- a cell is made at the heap's end -/
theorem HpA.new {s : State} {H H' : Heap} {G : Hp} {t n : Nat} (h : HpA s H G) (hz : H'.size = H.size + 1) (ho : ∀ q, q < H.size → H'[q]? = H[q]?) (hc : ∀ D cA, KK D cA s → cellK D cA (nw G t n) H' (gX G)) : HpA s H' (nw G t n) := by
  obtain ⟨h1, h2, ⟨D, cA, h3, h4⟩, h5, h6⟩ := h
  have hne : ∀ q, q ≠ gX G → gT (nw G t n) q = gT G q := fun q e => if_neg e
  refine ⟨by rw [hz, ← h1]; rfl, Nat.le_trans h2 (Nat.le_succ _), ⟨D, cA, h3, fun q => ?_⟩, fun q hq => ?_, (h6.kept (fun q hl _ => ho q hl)).gk rfl⟩
  · by_cases e : q = gX G
    · subst e
      exact hc D cA h3
    · by_cases hl : q < gX G
      · exact (h4 q).to rfl (hne q e) (if_neg e) (fun k => congrFun (if_neg e) k) (fun k => congrFun (if_neg e) k) (fun k => congrFun (if_neg e) k) (ho q (by rw [← h1]; exact hl))
      · refine Or.inl ?_
        rw [hne q e]
        exact h5 q (Nat.not_lt.mp hl)
  · have hq' : gX G + 1 ≤ q := hq
    rw [hne q (by omega)]
    exact h5 q (by omega)
def tsw : List (Int32 × Nat) → Nat → Int → List Int → Bool
  | [], _, _, [] => true
  | (c, t) :: r, pc, lo, off :: offs => decide (c.toInt = lo) && decide ((pc : Int) + off = (t : Int)) && tsw r pc (lo + 1) offs
  | _, _, _, _ => false
theorem tsw_ok {pc : Nat} {df : Nat} {x : Int32} : ∀ (cs : List (Int32 × Nat)) (lo : Int) (offs : List Int), tsw cs pc lo offs = true → (∃ (j : Nat) (off : Int), offs[j]? = some off ∧ x.toInt = lo + j ∧ (pc : Int) + off = (swi cs df x : Int)) ∨ ((x.toInt < lo ∨ lo + offs.length ≤ x.toInt) ∧ swi cs df x = df)
  | [], lo, [], _ => Or.inr ⟨by rcases Int.lt_or_le x.toInt lo with h | h <;> simp <;> omega, rfl⟩
  | [], _, _ :: _, h => by cases h
  | (c, t) :: r, lo, [], h => by cases h
  | (c, t) :: r, lo, off :: offs, h => by
    simp only [tsw, Bool.and_eq_true, decide_eq_true_eq] at h
    obtain ⟨⟨h1, h2⟩, h3⟩ := h
    rw [swi]
    by_cases e : x = c
    · rw [if_pos e]
      exact Or.inl ⟨0, off, rfl, by rw [e, h1]; simp, h2⟩
    · rw [if_neg e]
      have hne : x.toInt ≠ lo := fun q => e (Int32.toInt_inj.mp (q.trans h1.symm))
      rcases tsw_ok r (lo + 1) offs h3 with ⟨j, o, q1, q2, q3⟩ | ⟨q1, q2⟩
      · exact Or.inl ⟨j + 1, o, q1, by rw [q2]; push_cast; omega, q3⟩
      · refine Or.inr ⟨?_, q2⟩
        simp only [List.length_cons]
        push_cast
        omega
def lsw : List (Int32 × Nat) → Nat → List (Int × Int) → Bool
  | [], _, [] => true
  | (c, t) :: r, pc, (k, off) :: ps => decide (c.toInt = k) && decide ((pc : Int) + off = (t : Int)) && lsw r pc ps
  | _, _, _ => false
theorem lsw_ok {pc df : Nat} {dflt : Int} {x : Int32} (hd : (pc : Int) + dflt = (df : Int)) : ∀ (cs : List (Int32 × Nat)) (ps : List (Int × Int)), lsw cs pc ps = true → (pc : Int) + Op.lookupswitch.offset ps dflt x.toInt = (swi cs df x : Int)
  | [], [], _ => hd
  | [], _ :: _, h => by cases h
  | (c, t) :: r, [], h => by cases h
  | (c, t) :: r, (k, off) :: ps, h => by
    simp only [lsw, Bool.and_eq_true, decide_eq_true_eq] at h
    obtain ⟨⟨h1, h2⟩, h3⟩ := h
    rw [swi, Op.lookupswitch.offset_cons]
    by_cases e : x = c
    · rw [if_pos e, if_pos (by rw [e, h1])]
      exact h2
    · rw [if_neg e, if_neg (fun q => e (Int32.toInt_inj.mp (q.symm.trans h1.symm)))]
      exact lsw_ok hd r ps h3
section KSE
variable {p : Program} {l : Launch} {e : Env} {R : Room} {s : State} {m : MethodId} {args : Array Value} {below : List Frame} {meth : Method} {c : Code} {Q : State → Prop} {x0 s0 : Nat}
variable {met : Nat → Nat → List Value → Hp → Out → Hp → Prop} {hd : Nat → Option Nat} {d : Nat} {G : Hp} {pc : Nat} {ls st : List Value} {cc : ByteArray}
theorem k_tsw {dflt lo hi : Int} {offs : Array Int} {len df : Nat} {cs : List (Int32 × Nat)} (hs : tsw cs pc lo offs.toList = true) (hn : hi = lo + offs.size - 1) (hf : (pc : Int) + dflt = (df : Int)) (hx : p.tables.exec = Jvm.exec) (hb : c.code = cc) (hg : decode cc pc = .ok (.tableswitch dflt lo hi offs, len)) :
    CmdK p l e R s m args below meth c Q x0 s0 met hd d G pc ls st (pSw cs df ls st G) := by
  unfold pSw
  split
  · rename_i x st9
    refine k_same fun lsA H locs ce sl hl k => ?_
    rcases tsw_ok (df := df) (x := x) cs lo offs.toList hs with ⟨j, off, q1, q2, q3⟩ | ⟨q1, q2⟩
    · have hj : j < offs.size := by
        have := (List.getElem?_eq_some_iff.mp q1).1
        simpa using this
      refine lv_tableIn hx hb hg (by omega) (by rw [hn]; omega) (off := off) ?_ q3 k
      have e9 : (x.toInt - lo).toNat = j := by omega
      rw [e9, ← q1]
      simp
    · rw [q2] at k
      refine lv_tableOut hx hb hg ?_ hf k
      rw [hn]
      simp only [Array.length_toList] at q1
      omega
  · exact k_no
theorem k_lsw {dflt : Int} {ps : Array (Int × Int)} {len df : Nat} {cs : List (Int32 × Nat)} (hs : lsw cs pc ps.toList = true) (hp : (ps.toList.zip (ps.toList.drop 1)).all (fun (a, next) => a.1 < next.1) = true) (hf : (pc : Int) + dflt = (df : Int)) (hx : p.tables.exec = Jvm.exec) (hb : c.code = cc) (hg : decode cc pc = .ok (.lookupswitch dflt ps, len)) :
    CmdK p l e R s m args below meth c Q x0 s0 met hd d G pc ls st (pSw cs df ls st G) := by
  unfold pSw
  split
  · rename_i x st9
    exact k_same fun lsA H locs ce sl hl k => lv_lookup hx hb hg hp rfl (lsw_ok hf cs ps.toList hs) k
  · exact k_no
theorem k_acmp_eq {off : Int} {t : Nat} (ht : (pc : Int) + off = (t : Int)) (hx : p.tables.exec = Jvm.exec) (hb : c.code = cc) (hg : decode cc pc = .ok (.if_acmp .eq off, 3)) : CmdK p l e R s m args below meth c Q x0 s0 met hd d G pc ls st (pIfA true t (pc + 3) ls st G) := by
  unfold pIfA
  split
  · rename_i w v st9
    refine k_if (fun h0 => ?_) (fun _ => k_no)
    rw [Bool.and_eq_true] at h0
    obtain ⟨rx, rfl⟩ := rf_elim h0.1
    obtain ⟨ry, rfl⟩ := rf_elim h0.2
    refine k_if (fun h1 => ?_) (fun h1 => ?_)
    · have h2 : rx = ry := by
        have h3 : va_rf rx = va_rf ry := by simpa using h1
        have h4 := congrArg rvo h3
        rwa [rvo_rf, rvo_rf] at h4
      exact k_same fun lsA H locs ce sl hl k => lv_acmp_eq hx hb hg ht (fun _ => k) (fun z => absurd h2 z)
    · have h2 : ¬ rx = ry := fun z => h1 (by rw [z]; simp)
      exact k_same fun lsA H locs ce sl hl k => lv_acmp_eq hx hb hg ht (fun z => absurd z h2) (fun _ => k)
  · exact k_no
theorem k_acmp_ne {off : Int} {t : Nat} (ht : (pc : Int) + off = (t : Int)) (hx : p.tables.exec = Jvm.exec) (hb : c.code = cc) (hg : decode cc pc = .ok (.if_acmp .ne off, 3)) : CmdK p l e R s m args below meth c Q x0 s0 met hd d G pc ls st (pIfA false t (pc + 3) ls st G) := by
  unfold pIfA
  split
  · rename_i w v st9
    refine k_if (fun h0 => ?_) (fun _ => k_no)
    rw [Bool.and_eq_true] at h0
    obtain ⟨rx, rfl⟩ := rf_elim h0.1
    obtain ⟨ry, rfl⟩ := rf_elim h0.2
    refine k_if (fun h1 => ?_) (fun h1 => ?_)
    · have h2 : ¬ rx = ry := fun z => by rw [z] at h1; simp at h1
      exact k_same fun lsA H locs ce sl hl k => lv_acmp_ne hx hb hg ht (fun _ => k) (fun z => absurd z h2)
    · have h2 : rx = ry := by
        have h3 : va_rf rx = va_rf ry := by simpa using h1
        have h4 := congrArg rvo h3
        rwa [rvo_rf, rvo_rf] at h4
      exact k_same fun lsA H locs ce sl hl k => lv_acmp_ne hx hb hg ht (fun z => absurd h2 z) (fun _ => k)
  · exact k_no
/-- an end of the method -/
theorem k_ret {v : Option Value} (h : ∀ (lsA : Array Slot) (H : Heap) (locs : List Loc) (ce sl : Nat), HpA s H G → (∀ q ∈ locs, Abv G q.base) → W p l e R s m args below meth c H locs ce sl (MQ below (zQc (.inl v) G) args s ce sl (Abv G)) (F0 m pc lsA st)) :
    CmdK p l e R s m args below meth c Q x0 s0 met hd d G pc ls st (cR v) := by
  intro hf lsA H locs h1 h2 h3 h4 h5 h6
  obtain ⟨f1, f2, f3⟩ := hf
  rw [f3, f1, f2]
  exact vx_ret (h lsA H locs _ _ h2 h4)
theorem zq_of {v : Option Value} {H : Heap} {t : State} (h : HpA s H G) (ht : t.heap = H) (hW : s.WarmedH t.vm) : zQc (.inl v) G args s (.returned v) t := ⟨v, rfl, rfl, by rw [ht]; exact h.moved hW.alike⟩
theorem k_retI (hr : meth.sig.returnType = some .int) (hk : meth.locks = false) (hx : p.tables.exec = Jvm.exec) (hb : c.code = cc) (hg : decode cc pc = .ok (.ireturn, 1)) : CmdK p l e R s m args below meth c Q x0 s0 met hd d G pc ls st (pRetI ls st G) := by
  unfold pRetI
  split
  · exact k_ret fun lsA H locs ce sl hp hq => W.iret hx hb hr (fun t ht hW => zq_of hp ht hW) hq hg hk
  · exact k_no
theorem k_retZ (hr : meth.sig.returnType = some .boolean) (hk : meth.locks = false) (hx : p.tables.exec = Jvm.exec) (hb : c.code = cc) (hg : decode cc pc = .ok (.ireturn, 1)) : CmdK p l e R s m args below meth c Q x0 s0 met hd d G pc ls st (pRetZ ls st G) := by
  unfold pRetZ
  split
  · rename_i x
    exact k_if (fun h0 => k_ret fun lsA H locs ce sl hp hq => W.zret hx hb hr (by show Value.int (x &&& 1) = _; rw [h0]) (fun t ht hW => zq_of hp ht hW) hq hg hk) (fun _ => k_no)
  · exact k_no
theorem k_retC (hr : meth.sig.returnType = some .char) (hk : meth.locks = false) (hx : p.tables.exec = Jvm.exec) (hb : c.code = cc) (hg : decode cc pc = .ok (.ireturn, 1)) : CmdK p l e R s m args below meth c Q x0 s0 met hd d G pc ls st (pRetC ls st G) := by
  unfold pRetC
  split
  · rename_i x
    exact k_if (fun h0 => k_ret fun lsA H locs ce sl hp hq => W.zret hx hb hr (congrArg Value.int h0) (fun t ht hW => zq_of hp ht hW) hq hg hk) (fun _ => k_no)
  · exact k_no
theorem k_retB (hr : meth.sig.returnType = some .byte) (hk : meth.locks = false) (hx : p.tables.exec = Jvm.exec) (hb : c.code = cc) (hg : decode cc pc = .ok (.ireturn, 1)) : CmdK p l e R s m args below meth c Q x0 s0 met hd d G pc ls st (pRetB ls st G) := by
  unfold pRetB
  split
  · rename_i x
    exact k_if (fun h0 => k_ret fun lsA H locs ce sl hp hq => W.zret hx hb hr (congrArg Value.int h0) (fun t ht hW => zq_of hp ht hW) hq hg hk) (fun _ => k_no)
  · exact k_no
theorem k_retL (hr : meth.sig.returnType = some .long) (hk : meth.locks = false) (hx : p.tables.exec = Jvm.exec) (hb : c.code = cc) (hg : decode cc pc = .ok (.lreturn, 1)) : CmdK p l e R s m args below meth c Q x0 s0 met hd d G pc ls st (pRetL ls st G) := by
  unfold pRetL
  split
  · exact k_ret fun lsA H locs ce sl hp hq => W.lret hx hb hr (fun t ht hW => zq_of hp ht hW) hq hg hk
  · exact k_no
theorem k_retF (hr : meth.sig.returnType = some .float) (hk : meth.locks = false) (hx : p.tables.exec = Jvm.exec) (hb : c.code = cc) (hg : decode cc pc = .ok (.freturn, 1)) : CmdK p l e R s m args below meth c Q x0 s0 met hd d G pc ls st (pRetF ls st G) := by
  unfold pRetF
  split
  · exact k_ret fun lsA H locs ce sl hp hq => W.fret hx hb hr (fun t ht hW => zq_of hp ht hW) hq hg hk
  · exact k_no
theorem k_retD (hr : meth.sig.returnType = some .double) (hk : meth.locks = false) (hx : p.tables.exec = Jvm.exec) (hb : c.code = cc) (hg : decode cc pc = .ok (.dreturn, 1)) : CmdK p l e R s m args below meth c Q x0 s0 met hd d G pc ls st (pRetD ls st G) := by
  unfold pRetD
  split
  · exact k_ret fun lsA H locs ce sl hp hq => W.dret hx hb hr (fun t ht hW => zq_of hp ht hW) hq hg hk
  · exact k_no
theorem k_retA {rt : FieldType} (hr : meth.sig.returnType = some rt) (hrt : (∃ n, rt = .object n) ∨ ∃ t, rt = .array t) (hk : meth.locks = false) (hx : p.tables.exec = Jvm.exec) (hb : c.code = cc) (hg : decode cc pc = .ok (.areturn, 1)) : CmdK p l e R s m args below meth c Q x0 s0 met hd d G pc ls st (pRetA ls st G) := by
  unfold pRetA
  split
  · rename_i v
    refine k_if (fun h0 => ?_) (fun _ => k_no)
    have hv : v = .null ∨ ∃ a, v = .ref a := by
      obtain ⟨r, rfl⟩ := rf_elim h0
      cases r with
      | none => exact Or.inl rfl
      | some a => exact Or.inr ⟨a, rfl⟩
    exact k_ret fun lsA H locs ce sl hp hq => W.aret hx hb hr hrt hv (fun t ht hW => zq_of hp ht hW) hq hg hk
  · exact k_no
theorem k_retV (hr : meth.sig.returnType = none) (hk : meth.locks = false) (hx : p.tables.exec = Jvm.exec) (hb : c.code = cc) (hg : decode cc pc = .ok (.return_, 1)) : CmdK p l e R s m args below meth c Q x0 s0 met hd d G pc ls st (pRet ls st G) := by
  unfold pRet
  split
  · exact k_ret fun lsA H locs ce sl hp hq => W.vret hx hb hr (fun t ht hW => zq_of hp ht hW) hq hg hk
  · exact k_no
theorem fk_all {P : Nat → Nat → Prop} : ∀ {tk : List (Nat × Nat)}, (∀ q ∈ tk, P q.1 q.2) → ∀ {t k : Nat}, fk tk t = some k → P t k
  | [], _, t, k, h => by cases h
  | (u, k') :: r, ha, t, k, h => by
    rw [fk] at h
    split at h
    · rename_i e
      cases h
      rw [e]
      exact ha (u, k') List.mem_cons_self
    · exact fk_all (fun q hq => ha q (List.mem_cons_of_mem _ hq)) h
/-- what the tables say of a field by a pool entry -/
def FL (s : State) (args : Array Value) (own : String) (index : Nat) (t k : Nat) : Prop :=
  tcl t = true ∧ k < cL t ∧ ∃ ref : String, ((Cond.fieldLink own index ref (cT t k).2.1 (cT t k).2.2.1).before args s = true ∨ ∃ host, (Cond.fieldLinkNest own index ref (cT t k).2.1 (cT t k).2.2.1 host).before args s = true) ∧
    ∀ x, s.fieldFound? (cT t k).1 (cT t k).2.1 (cT t k).2.2.1 = some x → s.fieldFound? ref (cT t k).2.1 (cT t k).2.2.1 = some x
theorem k_get {rd : Hp → Nat → Nat → Value} {tk : List (Nat × Nat)} {own : String} {index : Nat} (hfl : ∀ q ∈ tk, FL s args own index q.1 q.2 ∧ ∀ (G : Hp) (a : Nat), fval G a q.2 (cTy q.1 q.2) = rd G a q.2) (hown : s.vm.findClass own = some m.cls) (hx : p.tables.exec = Jvm.exec) (hb : c.code = cc) (hg : decode cc pc = .ok (.getfield index, 3)) :
    CmdK p l e R s m args below meth c Q x0 s0 met hd d G pc ls st (pGet rd tk (pc + 3) ls st G) := by
  unfold pGet
  split
  · rename_i a st9
    split
    · rename_i k hk
      obtain ⟨⟨htc, hkl, ref, hlink, hsame⟩, hrd⟩ := fk_all (P := fun t k => FL s args own index t k ∧ ∀ (G : Hp) (a : Nat), fval G a k (cTy t k) = rd G a k) hfl hk
      intro _ _ _ kk lsA H locs h1 h2 h3 h4 h5 h6
      have kk9 := kk lsA H locs h1 h2 h3 h4 h5 h6
      obtain ⟨e1, e2, ⟨D, cA, hK, hc⟩, e5, e6⟩ := h2
      rcases hc a with h0 | ⟨cell, q1, q2, q3, q4, ⟨-, hcls, hfs⟩ | ⟨hta, -⟩ | ⟨hta, -⟩⟩
      · rw [h0] at htc
        exact absurd htc tcl_0
      · obtain ⟨cf, kf, fi, fd, hi, hsl, hst⟩ := (hK.1 _ htc).1 k hkl
        have hv : cell.slots[fd.slot]? = some (rd G a k) := by rw [hsl, hfs k hkl, hrd]
        rcases hlink with hl | ⟨host, hl⟩
        · exact W.getf hx hb hown hl (hsame _ hi) hst q1 q3 hv rfl rfl hg kk9
        · exact va_Wgetf hx hb hown hl (hsame _ hi) hst q1 q3 hv rfl rfl hg kk9
      · exact (tcl_tar htc hta).elim
      · exact (tcl_tlm htc hta).elim
    · exact k_no
  · exact k_no
end KSE

/-! an array's clone -/
theorem HpA.newG {s : State} {H H' : Heap} {G G' : Hp} (h : HpA s H G) (hK : gK G' = gK G) (hX : gX G' = gX G + 1) (hT : ∀ q, q ≠ gX G → gT G' q = gT G q) (hN : ∀ q, q ≠ gX G → gN G' q = gN G q) (hI : ∀ q k, q ≠ gX G → gI G' q k = gI G q k) (hJ : ∀ q k, q ≠ gX G → gJ G' q k = gJ G q k) (hR : ∀ q k, q ≠ gX G → gR G' q k = gR G q k)
    (hz : H'.size = H.size + 1) (ho : ∀ q, q < H.size → H'[q]? = H[q]?) (hc : ∀ D cA, KK D cA s → cellK D cA G' H' (gX G)) : HpA s H' G' := by
  obtain ⟨h1, h2, ⟨D, cA, h3, h4⟩, h5, h6⟩ := h
  refine ⟨by rw [hX, hz, h1], by rw [gB_gK hK, hX]; exact Nat.le_succ_of_le h2, ⟨D, cA, h3, fun q => ?_⟩, fun q hq => ?_, (h6.kept (fun q hl _ => ho q hl)).gk hK⟩
  · by_cases e : q = gX G
    · subst e
      exact hc D cA h3
    · by_cases hl : q < gX G
      · exact (h4 q).to hK (hT q e) (hN q e) (fun k => hI q k e) (fun k => hJ q k e) (fun k => hR q k e) (ho q (by rw [← h1]; exact hl))
      · refine Or.inl ?_
        rw [hT q e]
        exact h5 q (Nat.not_lt.mp hl)
  · rw [hX] at hq
    rw [hT q (by omega)]
    exact h5 q (by omega)
theorem nw_oT {G : Hp} {t n q : Nat} (e : q ≠ gX G) : gT (nw G t n) q = gT G q := if_neg e
theorem nw_oN {G : Hp} {t n q : Nat} (e : q ≠ gX G) : gN (nw G t n) q = gN G q := if_neg e
theorem nw_oI {G : Hp} {t n q k : Nat} (e : q ≠ gX G) : gI (nw G t n) q k = gI G q k := congrFun (if_neg e) k
theorem nw_oJ {G : Hp} {t n q k : Nat} (e : q ≠ gX G) : gJ (nw G t n) q k = gJ G q k := congrFun (if_neg e) k
theorem nw_oR {G : Hp} {t n q k : Nat} (e : q ≠ gX G) : gR (nw G t n) q k = gR G q k := congrFun (if_neg e) k
section KCL
variable {p : Program} {l : Launch} {e : Env} {R : Room} {s : State} {m : MethodId} {args : Array Value} {below : List Frame} {meth : Method} {c : Code} {Q : State → Prop} {x0 s0 : Nat}
variable {met : Nat → Nat → List Value → Hp → Out → Hp → Prop} {hd : Nat → Option Nat} {d : Nat} {G : Hp} {pc : Nat} {ls st : List Value} {cc : ByteArray}
theorem k_cln {own ad : String} {index a : Nat} {st9 : List Value} {G' : Hp} (hown : s.vm.findClass own = some m.cls) (hlink : (Cond.methodLink own index ⟨ad, "clone", "()Ljava/lang/Object;"⟩).before args s = true) (hsame : (Cond.sameMethod ad "java/lang/Object" "clone" "()Ljava/lang/Object;").before args s = true)
    (hnat : (Cond.native ⟨"java/lang/Object", "clone", "()Ljava/lang/Object;"⟩).before args s = true) (hinst : (Cond.instanceMethod ⟨"java/lang/Object", "clone", "()Ljava/lang/Object;"⟩).before args s = true)
    (hsel : (Cond.selects ad ⟨ad, "clone", "()Ljava/lang/Object;"⟩ ⟨"java/lang/Object", "clone", "()Ljava/lang/Object;"⟩).before args s = true) (hcl : va_Nw (.castable ad "java/lang/Cloneable") s) (had : ad = "[" ++ (aTy (gT G a)).toString)
    (hx : p.tables.exec = Jvm.exec) (hb : c.code = cc) (hg : decode cc pc = .ok (.invokevirtual index, 3)) (hRf : 2 * d + 20 ≤ R.frames) (hRl : 260 * d + 4000 ≤ R.locals) (hst : st9.length ≤ 4) (hta : tar (gT G a) = true) 
    (hK : gK G' = gK G) (hX : gX G' = gX G + 1) (hS : gS G' = gS G + gN G a) (hT : ∀ q, q ≠ gX G → gT G' q = gT G q) (hN : ∀ q, q ≠ gX G → gN G' q = gN G q) (hI : ∀ q k, q ≠ gX G → gI G' q k = gI G q k) (hJ : ∀ q k, q ≠ gX G → gJ G' q k = gJ G q k) (hR : ∀ q k, q ≠ gX G → gR G' q k = gR G q k)
    (hT0 : gT G' (gX G) = gT G a) (hN0 : gN G' (gX G) = gN G a) (hv : ∀ j, aval G' (gX G) j (gT G a) = aval G a j (gT G a)) (hfit : ∀ j, j < gN G a → fits (aTy (gT G a)) (aval G a j (gT G a)) = true) :
    CmdK p l e R s m args below meth c Q x0 s0 met hd d G pc ls (.ref a :: st9) (cJ (pc + 3) ls (.ref (gX G) :: st9) G') := by
  intro g1 g2 g3 kk lsA H locs e1 e2 e3 e4 e5 e6
  obtain ⟨cell, k, comp, d1, d2, d3, d4, d5, d6, d7, d8, d9, d10⟩ := e2.arr hta
  obtain ⟨c0, t0', f1, f2, f3⟩ := Cond.castable_spec (va_Nw.use (A := args) rfl hcl)
  rw [had] at f1
  cases d7.symm.trans f1
  rw [hX] at g2
  rw [hS] at g3
  intro T hTh X
  have hcat := cat_sum st9
  obtain ⟨k', hk', he⟩ := X.warmed.alike.2.2 _ _ d8
  have hkind' : k'.kind = .array comp (aTy (gT G a)) := by rw [he]; exact d9
  obtain ⟨vm', X', st⟩ := X.cloneArray hx hown hlink hsame hnat hinst hsel (a := a) (cell := cell) (by rw [hTh]; exact d1) (fun z h => by rw [h] at d2; cases d2) d3 (by rw [had]; exact d7) f2 f3
    (fun i v hv9 => by
      have hi : i < gN G a := by
        have := (Array.getElem?_eq_some_iff.mp hv9).1
        rw [d5] at this
        exact this
      rw [d6 i hi] at hv9
      cases hv9
      simpa [State.fitsSlot, State.slotType?, hk', hkind'] using hfit i hi)
    (g := F0 m pc lsA (.ref a :: st9)) rfl e1.sz rfl (by rw [hb]; exact hg) (by omega) (by show 2 * 0 + (st9.map fun v => v.category).sum + 14 ≤ R.locals; omega) (by omega) (by rw [d5]; omega) (hloader := Vm.clonesLoader_of_array d8 d9)
  rw [d5] at X'
  have hgx := e2.1
  have hp' : HpA s (H.push { cls := cell.cls, slots := cell.slots }) G' := by
    refine e2.newG hK hX hT hN hI hJ hR (by rw [Array.size_push]) (fun q hq => by rw [Array.getElem?_push, if_neg (Nat.ne_of_lt hq)]) (fun D2 cA2 hK2 => ?_)
    refine Or.inr ⟨{ cls := cell.cls, slots := cell.slots }, by rw [hgx, Array.getElem?_push_size], rfl, (by intro z; cases z), fun _ => rfl, Or.inr (Or.inl ⟨by rw [hT0]; exact hta, ?_, ?_, fun j hj => ?_⟩)⟩
    · rw [hT0]
      exact Option.some.inj (d7.symm.trans (hK2.2 _ hta).1)
    · rw [hN0]; exact d5
    · rw [hN0] at hj
      rw [hT0, hv j]
      exact d6 j hj
  have w := kk lsA _ locs e1 hp' (e3.gk hK) (fun q hq => by rw [gB_gK hK]; exact e4 q hq) (by rw [hX]; omega) (by rw [hS]; omega)
  have a1 : gX G' - x0 = gX G - x0 + 1 := by rw [hX]; omega
  have a2 : gS G' - s0 = gS G - s0 + gN G a := by rw [hS]; omega
  rw [a1, a2] at w
  obtain ⟨t, b1, b2⟩ := w ((T.setVm vm').pushCell { cls := cell.cls, slots := cell.slots }) (by rw [← hTh]; rfl) X'
  have hsz : T.heap.size = gX G := by rw [hTh]; exact hgx.symm
  rw [hsz] at st
  exact ⟨t, st t b1, b2⟩
theorem k_clone {own ad : String} {index t : Nat} (hown : s.vm.findClass own = some m.cls) (hlink : (Cond.methodLink own index ⟨ad, "clone", "()Ljava/lang/Object;"⟩).before args s = true) (hsame : (Cond.sameMethod ad "java/lang/Object" "clone" "()Ljava/lang/Object;").before args s = true)
    (hnat : (Cond.native ⟨"java/lang/Object", "clone", "()Ljava/lang/Object;"⟩).before args s = true) (hinst : (Cond.instanceMethod ⟨"java/lang/Object", "clone", "()Ljava/lang/Object;"⟩).before args s = true)
    (hsel : (Cond.selects ad ⟨ad, "clone", "()Ljava/lang/Object;"⟩ ⟨"java/lang/Object", "clone", "()Ljava/lang/Object;"⟩).before args s = true) (hcl : va_Nw (.castable ad "java/lang/Cloneable") s) (had : ad = "[" ++ (aTy t).toString) (hta : tar t = true)
    (hx : p.tables.exec = Jvm.exec) (hb : c.code = cc) (hg : decode cc pc = .ok (.invokevirtual index, 3)) (hRf : 2 * d + 20 ≤ R.frames) (hRl : 260 * d + 4000 ≤ R.locals) :
    CmdK p l e R s m args below meth c Q x0 s0 met hd d G pc ls st (pClone t (pc + 3) ls st G) := by
  unfold pClone
  split
  · rename_i a st9
    refine k_if (fun h0 => ?_) (fun _ => k_no)
    simp only [Bool.and_eq_true, decide_eq_true_eq] at h0
    obtain ⟨⟨rfl, h2⟩, h3⟩ := h0
    refine k_if (fun h1 => ?_) (fun _ => k_if (fun h1 => ?_) (fun _ => k_no))
    · have hav : ∀ (G9 : Hp) (q j : Nat), aval G9 q j (gT G a) = va_rf (gR G9 q j) := fun G9 q j => if_pos h1
      refine k_cln (G' := sRr (nw G (gT G a) (gN G a)) (gX G) (gR G a)) hown hlink hsame hnat hinst hsel hcl had hx hb hg hRf hRl h3 hta rfl rfl rfl (fun q e => nw_oT (G := G) (t := gT G a) (n := gN G a) e) (fun q e => nw_oN (G := G) (t := gT G a) (n := gN G a) e) (fun q k e => nw_oI (G := G) (t := gT G a) (n := gN G a) e) (fun q k e => nw_oJ (G := G) (t := gT G a) (n := gN G a) e) (fun q k e => (upr_ne e).trans (nw_oR (G := G) (t := gT G a) (n := gN G a) e)) (nw_T (G := G) (t := gT G a) (n := gN G a)) (nw_N (G := G) (t := gT G a) (n := gN G a)) (fun j => ?_) (fun j hj => ?_)
      · rw [hav, hav]
        exact congrArg va_rf upr_eq
      · have hC : ∃ C, aTy (gT G a) = .object C := by
          have : gT G a = 110 ∨ gT G a = 111 ∨ gT G a = 112 ∨ gT G a = 113 := by
            simp only [tar, Bool.and_eq_true, Bool.or_eq_true, decide_eq_true_eq] at hta
            omega
          rcases this with q | q | q | q <;> rw [q] <;> exact ⟨_, rfl⟩
        obtain ⟨C, hC⟩ := hC
        rw [hav, hC]
        cases gR G a j <;> rfl
    · rw [Bool.and_eq_true, decide_eq_true_eq] at h1
      obtain ⟨h4, h5⟩ := h1
      have hav : ∀ (G9 : Hp) (q j : Nat), aval G9 q j (gT G a) = .int (gI G9 q j) := fun G9 q j => by rw [h4]; rfl
      refine k_cln (G' := sIr (nw G (gT G a) (gN G a)) (gX G) (gI G a)) hown hlink hsame hnat hinst hsel hcl had hx hb hg hRf hRl h3 hta rfl rfl rfl (fun q e => nw_oT (G := G) (t := gT G a) (n := gN G a) e) (fun q e => nw_oN (G := G) (t := gT G a) (n := gN G a) e) (fun q k e => (upr_ne e).trans (nw_oI (G := G) (t := gT G a) (n := gN G a) e)) (fun q k e => nw_oJ (G := G) (t := gT G a) (n := gN G a) e) (fun q k e => nw_oR (G := G) (t := gT G a) (n := gN G a) e) (nw_T (G := G) (t := gT G a) (n := gN G a)) (nw_N (G := G) (t := gT G a) (n := gN G a)) (fun j => ?_) (fun j hj => ?_)
      · rw [hav, hav]
        exact congrArg Value.int upr_eq
      · rw [hav, h4]
        have := List.all_eq_true.mp h5 j (List.mem_range.mpr hj)
        rw [Nat.zero_add] at this
        exact (okB_fit this).2
  · exact k_no
end KCL

/-! System.arraycopy -/
theorem upr_ne {α : Type} {f : Nat → Nat → α} {a q k : Nat} {x : Nat → α} (h : q ≠ a) : upr f a x q k = f q k := congrFun (if_neg h) k
theorem upr_eq {α : Type} {f : Nat → Nat → α} {a k : Nat} {x : Nat → α} : upr f a x a k = x k := congrFun (if_pos rfl) k
theorem nneg {z : Int32} (hz : ¬ z < 0) : z.toInt = (z.toNatClampNeg : Int) := by
  have hz0 : (0 : Int) ≤ z.toInt := by
    have := Int32.not_lt.mp hz
    simpa using Int32.le_iff_toInt_le.mp this
  show z.toInt = ((z.toInt.toNat : Nat) : Int)
  omega
theorem copied_at {cs cd : Cell} {sp dp k : Int32} {f g : Nat → Value} {n1 n2 : Nat} (h1 : cs.slots.size = n1) (h2 : cd.slots.size = n2) (hs : ∀ j, j < n1 → cs.slots[j]? = some (f j)) (hd : ∀ j, j < n2 → cd.slots[j]? = some (g j)) (b1 : sp.toNatClampNeg + k.toNatClampNeg ≤ n1) (b2 : dp.toNatClampNeg + k.toNatClampNeg ≤ n2) :
    ∀ j, j < n2 → (copied cs cd sp dp k).slots[j]? = some (va_cpy f g sp.toNatClampNeg dp.toNatClampNeg k.toNatClampNeg j) := by
  intro j hj
  have hl : (cs.stretch sp.toNatClampNeg k.toNatClampNeg).length = k.toNatClampNeg := by simp [Cell.stretch]
  show (cd.storeRun dp.toNatClampNeg (cs.stretch sp.toNatClampNeg k.toNatClampNeg)).slots[j]? = _
  rw [Cell.storeRun_get _ _ _ _ (by rw [hl, h2]; exact b2), hl]
  unfold va_cpy
  by_cases hc : dp.toNatClampNeg ≤ j ∧ j < dp.toNatClampNeg + k.toNatClampNeg
  · rw [if_pos hc, if_pos hc]
    have hlt : j - dp.toNatClampNeg < k.toNatClampNeg := by omega
    unfold Cell.stretch
    rw [List.getElem?_map, List.getElem?_range hlt]
    show some (cs.slots.getD _ _) = _
    rw [Array.getD_eq_getD_getElem?, hs _ (by omega)]
    rfl
  · rw [if_neg hc, if_neg hc]
    exact hd j hj
theorem va_cpy_map {α β : Type} (m : α → β) (f g : Nat → α) (sp dp n j : Nat) : va_cpy (fun i => m (f i)) (fun i => m (g i)) sp dp n j = m (va_cpy f g sp dp n j) := by
  unfold va_cpy
  split <;> rfl
section KCP
variable {p : Program} {l : Launch} {e : Env} {R : Room} {s : State} {m : MethodId} {args : Array Value} {below : List Frame} {meth : Method} {c : Code} {Q : State → Prop} {x0 s0 : Nat}
variable {met : Nat → Nat → List Value → Hp → Out → Hp → Prop} {hd : Nat → Option Nat} {d : Nat} {G : Hp} {pc : Nat} {ls st : List Value} {cc : ByteArray}
theorem k_cpy {own : String} {index : Nat} {a b : Nat} {sp dp k : Int32} {st9 : List Value} {G' : Hp} (hown : s.vm.findClass own = some m.cls) (hlink : (Cond.methodLink own index arraycopyName).before args s = true) (hnat : (Cond.native arraycopyName).before args s = true) (hstat : (Cond.static arraycopyName).before args s = true) (hini : (Cond.initialized "java/lang/System").before args s = true)
    (hx : p.tables.exec = Jvm.exec) (hb : c.code = cc) (hg : decode cc pc = .ok (.invokestatic index, 3)) (hRf : 2 * d + 20 ≤ R.frames) (hRl : 260 * d + 4000 ≤ R.locals) (hc : cpOK G a b sp dp k = true) (hst : st9.length ≤ 4) (hta : tar (gT G a) = true)
    (hK : gK G' = gK G) (hX : gX G' = gX G) (hS : gS G' = gS G) (hT : gT G' = gT G) (hN : gN G' = gN G) (hI : ∀ q j, q ≠ a → gI G' q j = gI G q j) (hJ : ∀ q j, q ≠ a → gJ G' q j = gJ G q j) (hR : ∀ q j, q ≠ a → gR G' q j = gR G q j)
    (hv : ∀ j, j < gN G a → aval G' a j (gT G a) = va_cpy (fun i => aval G b i (gT G a)) (fun i => aval G a i (gT G a)) sp.toNatClampNeg dp.toNatClampNeg k.toNatClampNeg j)
    (hfit : ∀ H : Heap, HpA s H G → ∀ (T : State), T.heap = H → ∀ vm' : Vm, s.vm.Alike vm' → ∀ (comp : ClassId), (∀ C, aTy (gT G a) = .object C → s.vm.findClass C = some comp) → ∀ i, i < k.toNatClampNeg → fits (aTy (gT G a)) (aval G b (sp.toNatClampNeg + i) (gT G a)) = true ∧ (T.setVm vm').takes comp (aval G b (sp.toNatClampNeg + i) (gT G a))) :
    CmdK p l e R s m args below meth c Q x0 s0 met hd d G pc ls (.int k :: .int dp :: .ref a :: .int sp :: .ref b :: st9) (cJ (pc + 3) ls st9 G') := by
  intro g1 g2 g3 kk lsA H locs e1 e2 e3 e4 e5 e6
  simp only [cpOK, Bool.and_eq_true, decide_eq_true_eq] at hc
  obtain ⟨⟨⟨⟨⟨⟨c1, c2⟩, c3⟩, c4⟩, c5⟩, c6⟩, c7⟩ := hc
  obtain ⟨cd, kd, compd, d1, d2, d3, d4, d5, d6, d7, d8, d9, d10⟩ := e2.arr hta
  obtain ⟨cs, ks, comps, f1, f2, f3, f4, f5, f6, f7, f8, f9, f10⟩ := e2.arr (a := b) (by rw [← c6]; exact hta)
  rw [← c6] at f4 f6 f7 f9 f10
  intro T hTh X
  have hcat := cat_sum st9
  obtain ⟨vm', X', step⟩ := X.arraycopy hx hown hlink hnat hstat hini (src := b) (dst := a) (cs := cs) (cd := cd) (srcPos := sp) (destPos := dp) (n := k) (by rw [hTh]; exact f1) (by rw [hTh]; exact d1)
    (fun z h => by rw [h] at f2; cases f2) (fun z h => by rw [h] at d2; cases d2) f3 d3 f8 d8 f9 d9 (by simp) c3 c2 c1
    (by rw [nneg c3, nneg c1, f5]; omega) (by rw [nneg c2, nneg c1, d5]; omega)
    (fun vm₁ hal i hi => by
      have e9 : cs.slots.getD (sp.toNatClampNeg + i) .null = aval G b (sp.toNatClampNeg + i) (gT G a) := by
        rw [Array.getD_eq_getD_getElem?, f6 _ (by omega)]
        rfl
      rw [e9]
      exact hfit H e2 T hTh vm₁ hal compd (fun C hC => by rw [hC] at d10; exact d10) i hi)
    (g := F0 m pc lsA (.int k :: .int dp :: .ref a :: .int sp :: .ref b :: st9)) rfl e1.sz (rest := st9) rfl (by rw [hb]; exact hg) (by omega) (by
      show 2 * 0 + (st9.map fun v => v.category).sum + (5 + 2 + 11) ≤ R.locals
      omega)
  have hl : a < H.size := (Array.getElem?_eq_some_iff.mp d1).1
  have hheap : ((T.setVm vm').setCell a (copied cs cd sp dp k)).heap = H.setIfInBounds a (copied cs cd sp dp k) := by rw [← hTh]; rfl
  have oq : ∀ q : Nat, q ≠ a → (H.setIfInBounds a (copied cs cd sp dp k))[q]? = H[q]? := fun q hq => by simp [Array.getElem?_setIfInBounds, Ne.symm hq]
  have fct := cd.storeRun_facts dp.toNatClampNeg (cs.stretch sp.toNatClampNeg k.toNatClampNeg)
  have hp' : HpA s (H.setIfInBounds a (copied cs cd sp dp k)) G' := by
    refine e2.put (a := a) hK hX hT hN hI hJ hR (by simp) oq c7 ?_
    intro D2 cA2 hK2 hc2
    rcases hc2 with h0 | ⟨cell2, r1, r2, r3, r4, ⟨ra, rcls, rfs⟩ | ⟨-, rb, rc, rd⟩ | ⟨ra, -⟩⟩
    · rw [h0] at hta; exact absurd hta tar_0
    · exact (tcl_tar ra hta).elim
    · cases d1.symm.trans r1
      refine Or.inr ⟨copied cs cd sp dp k, by simp [Array.getElem?_setIfInBounds, hl], ?_, ?_, fun h => ?_, Or.inr (Or.inl ⟨by rw [hT]; exact hta, ?_, ?_, fun j hj => ?_⟩)⟩
      · show (cd.storeRun _ _).vm.isStatics = false
        rw [fct.2.1]; exact r2
      · show (cd.storeRun _ _).vm ≠ .unknown
        rw [fct.2.1]; exact r3
      · show (cd.storeRun _ _).vm = .none
        rw [fct.2.1]; exact r4 (by rw [← gB_gK hK]; exact h)
      · show (cd.storeRun _ _).cls = _
        rw [fct.1, hT]; exact rb
      · show (cd.storeRun _ _).slots.size = _
        rw [fct.2.2.1, hN]; exact rc
      · rw [hN] at hj
        rw [hT, hv j hj]
        exact copied_at f5 d5 f6 d6 c4 c5 j hj
    · exact (tar_tlm hta ra).elim
  have w := kk lsA _ (locs ++ (cs.stretch sp.toNatClampNeg k.toNatClampNeg).zipIdx.map fun q => ⟨a, dp.toNatClampNeg + q.2⟩) e1 hp' (e3.gk hK) (fun q hq => by
    rw [gB_gK hK]
    rcases List.mem_append.mp hq with h | h
    · exact e4 q h
    · obtain ⟨z, -, hz⟩ := List.mem_map.mp h
      rw [← hz]
      exact c7) (by rw [hX]; exact e5) (by rw [hS]; exact e6)
  rw [hX, hS] at w
  obtain ⟨t, a1, b1⟩ := w _ hheap X'
  exact ⟨t, step t a1, b1⟩
theorem k_copy {ok : Nat → Nat → Bool} {own : String} {index : Nat} (hap : AP s ok) (hok : ∀ t u, ok t u = true → u ≠ 0) (hown : s.vm.findClass own = some m.cls) (hlink : (Cond.methodLink own index arraycopyName).before args s = true) (hnat : (Cond.native arraycopyName).before args s = true) (hstat : (Cond.static arraycopyName).before args s = true) (hini : (Cond.initialized "java/lang/System").before args s = true)
    (hx : p.tables.exec = Jvm.exec) (hb : c.code = cc) (hg : decode cc pc = .ok (.invokestatic index, 3)) (hRf : 2 * d + 20 ≤ R.frames) (hRl : 260 * d + 4000 ≤ R.locals) :
    CmdK p l e R s m args below meth c Q x0 s0 met hd d G pc ls st (pCopy ok (pc + 3) ls st G) := by
  unfold pCopy
  split
  · rename_i k dp a sp b st9
    refine k_if (fun h0 => ?_) (fun _ => k_no)
    rw [Bool.and_eq_true, decide_eq_true_eq] at h0
    refine k_if (fun h1 => ?_) (fun _ => k_if (fun h1 => ?_) (fun _ => k_no))
    · have ht : gT G a = 100 ∨ (gT G a = 102 ∧ bAll G b sp.toNatClampNeg k.toNatClampNeg = true) := by simpa using h1
      have hta : tar (gT G a) = true := by rcases ht with h | ⟨h, -⟩ <;> rw [h] <;> rfl
      have hav : ∀ (G9 : Hp) (q j : Nat), aval G9 q j (gT G a) = .int (gI G9 q j) := fun G9 q j => by rcases ht with h | ⟨h, -⟩ <;> rw [h] <;> rfl
      refine k_cpy hown hlink hnat hstat hini hx hb hg hRf hRl h0.1 h0.2 hta rfl rfl rfl rfl rfl (fun q j h => upr_ne h) (fun q j h => rfl) (fun q j h => rfl) (fun j hj => ?_) (fun H h2 T hT vm' hal comp hcm i hi => ?_)
      · simp only [hav]
        rw [va_cpy_map (fun x => Value.int x)]
        exact congrArg Value.int upr_eq
      · rw [hav]
        refine ⟨?_, trivial⟩
        rcases ht with h | ⟨h, hb9⟩
        · rw [h]; rfl
        · rw [h]
          have := List.all_eq_true.mp hb9 i (List.mem_range.mpr hi)
          exact (okB_fit this).2
    · rw [Bool.and_eq_true, decide_eq_true_eq] at h1
      obtain ⟨ht, hr⟩ := h1
      intro g1 g2 g3 kk lsA H locs e1 e2 e3 e4 e5 e6
      have hta : tar (gT G a) = true := e2.tag100 (by omega)
      have hav : ∀ (G9 : Hp) (q j : Nat), aval G9 q j (gT G a) = va_rf (gR G9 q j) := fun G9 q j => if_pos ht
      have hC : ∃ C, aTy (gT G a) = .object C := by
        have : gT G a = 110 ∨ gT G a = 111 ∨ gT G a = 112 ∨ gT G a = 113 := by
          simp only [tar, Bool.and_eq_true, Bool.or_eq_true, decide_eq_true_eq] at hta
          omega
        rcases this with q | q | q | q <;> rw [q] <;> exact ⟨_, rfl⟩
      obtain ⟨C, hC⟩ := hC
      refine k_cpy (G' := sRr G a (va_cpy (gR G b) (gR G a) sp.toNatClampNeg dp.toNatClampNeg k.toNatClampNeg)) (Q := Q) (x0 := x0) (s0 := s0) (met := met) (hd := hd) (ls := ls) hown hlink hnat hstat hini hx hb hg hRf hRl h0.1 h0.2 hta rfl rfl rfl rfl rfl (fun q j h => rfl) (fun q j h => rfl) (fun q j h => upr_ne h) (fun j hj => ?_) (fun H h2 T hT vm' hal comp hcm i hi => ?_) g1 g2 g3 kk lsA H locs e1 e2 e3 e4 e5 e6
      · simp only [hav]
        rw [va_cpy_map va_rf]
        exact congrArg va_rf upr_eq
      · rw [hav, hC]
        have h9 := List.all_eq_true.mp hr i (List.mem_range.mpr hi)
        cases hq : gR G b (sp.toNatClampNeg + i) with
        | none => exact ⟨rfl, trivial⟩
        | some y =>
          rw [hq] at h9
          dsimp only at h9
          have hcomp := hcm C hC
          obtain ⟨cellV, kC, v1, v2, hkC, has⟩ := AP.val hap hok h2 e3 ht h9 hC hcomp
          obtain ⟨kE, hkE⟩ := fc_get hcomp
          obtain ⟨kC', hkC', -⟩ := hal.2.2 _ _ hkC
          obtain ⟨kE', hkE', -⟩ := hal.2.2 _ _ hkE
          refine ⟨rfl, cellV, (show T.heap[y]? = some cellV by rw [hT]; exact v1), (fun q h => by rw [h] at v2; cases v2), ⟨kC', hkC'⟩, ⟨kE', hkE'⟩, ?_⟩
          show vm'.assignable _ _ = true
          rw [hal.assignable]
          exact has
  · exact k_no
end KCP

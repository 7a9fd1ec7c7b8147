/-! small calls, 'throw new E()', static fields that may be null -/
theorem cat_sum : ∀ (st : List Value), (st.map fun v => v.category).sum ≤ 2 * st.length
  | [] => Nat.le_refl _
  | v :: r => by
    have h := cat_sum r
    have h1 : v.category ≤ 2 := by cases v <;> first | exact Nat.le_refl 2 | exact Nat.le_succ 1
    simp only [List.map_cons, List.sum_cons, List.length_cons]
    omega
section KSM
variable {p : Program} {l : Launch} {e : Env} {R : Room} {s : State} {m : MethodId} {args : Array Value} {below : List Frame} {meth : Method} {c : Code} {Q : State → Prop} {x0 s0 : Nat}
variable {met : Nat → Nat → List Value → Hp → Out → Hp → Prop} {hd : Nat → Option Nat} {d : Nat} {G : Hp} {pc : Nat} {ls st : List Value} {cc : ByteArray}
theorem k_objInit {own : String} {index : Nat} (hown : s.vm.findClass own = some m.cls) (hl : (Cond.methodLink own index Lib.objectInit).before args s = true) (hi : (Cond.instanceMethod Lib.objectInit).before args s = true) (hc : (Cond.code Lib.objectInit ⟨#[0xb1]⟩ 1 none).before args s = true) (hRf : 2 * d + 20 ≤ R.frames) (hRl : 260 * d + 4000 ≤ R.locals) (hx : p.tables.exec = Jvm.exec) (hb : c.code = cc) (hg : decode cc pc = .ok (.invokespecial index, 3)) :
    CmdK p l e R s m args below meth c Q x0 s0 met hd d G pc ls st (pObjInit (pc + 3) ls st G) := by
  unfold pObjInit
  split
  · rename_i a st9
    refine k_if (fun h0 => ?_) (fun _ => k_no)
    refine k_same fun lsA H locs ce sl hls k => W.objInit hx hb hown hl hi hc rfl hls.sz rfl hg (by omega) ?_ k
    have := cat_sum st9
    show 2 * 0 + (st9.map fun v => v.category).sum + 12 ≤ R.locals
    omega
  · exact k_no
theorem k_min {own : String} {index : Nat} (hown : s.vm.findClass own = some m.cls) (hl : (Cond.methodLink own index Lib.Math.min.name).before args s = true) (hi : (Cond.static Lib.Math.min.name).before args s = true) (hn : (Cond.initialized "java/lang/Math").before args s = true) (hc : (Cond.code Lib.Math.min.name Lib.Math.min.code 2 (some .int)).before args s = true) (hRf : 2 * d + 20 ≤ R.frames) (hRl : 260 * d + 4000 ≤ R.locals) (hx : p.tables.exec = Jvm.exec) (hb : c.code = cc) (hg : decode cc pc = .ok (.invokestatic index, 3)) :
    CmdK p l e R s m args below meth c Q x0 s0 met hd d G pc ls st (pMin (pc + 3) ls st G) := by
  unfold pMin
  split
  · rename_i y x st9
    refine k_if (fun h0 => ?_) (fun _ => k_no)
    intro g1 g2 g3 kk lsA H locs e1 e2 e3 e4 e5 e6
    have := cat_sum st9
    exact va_mmin hx hb e1.sz.symm hown hl hi hn hc (by omega) (by omega) g2 g3 hg (kk lsA H locs e1 e2 e3 e4 e5 e6)
  · exact k_no
theorem k_max {own : String} {index : Nat} (hown : s.vm.findClass own = some m.cls) (hl : (Cond.methodLink own index Lib.Math.max.name).before args s = true) (hi : (Cond.static Lib.Math.max.name).before args s = true) (hn : (Cond.initialized "java/lang/Math").before args s = true) (hc : (Cond.code Lib.Math.max.name Lib.Math.max.code 2 (some .int)).before args s = true) (hRf : 2 * d + 20 ≤ R.frames) (hRl : 260 * d + 4000 ≤ R.locals) (hx : p.tables.exec = Jvm.exec) (hb : c.code = cc) (hg : decode cc pc = .ok (.invokestatic index, 3)) :
    CmdK p l e R s m args below meth c Q x0 s0 met hd d G pc ls st (pMax (pc + 3) ls st G) := by
  unfold pMax
  split
  · rename_i y x st9
    refine k_if (fun h0 => ?_) (fun _ => k_no)
    intro g1 g2 g3 kk lsA H locs e1 e2 e3 e4 e5 e6
    have := cat_sum st9
    exact va_mmax hx hb e1.sz.symm hown hl hi hn hc (by omega) (by omega) g2 g3 hg (kk lsA H locs e1 e2 e3 e4 e5 e6)
  · exact k_no
theorem k_gq {own ref : String} {index : Nat} {q : Nat × String × String × String} (hq : q ∈ sQ) (hlink : (Cond.fieldLink own index ref q.2.2.1 q.2.2.2).before args s = true ∨ ∃ host, (Cond.fieldLinkNest own index ref q.2.2.1 q.2.2.2 host).before args s = true) (hsame : ∀ x, s.fieldFound? q.2.1 q.2.2.1 q.2.2.2 = some x → s.fieldFound? ref q.2.2.1 q.2.2.2 = some x) (hown : s.vm.findClass own = some m.cls) (hx : p.tables.exec = Jvm.exec) (hb : c.code = cc) (hg : decode cc pc = .ok (.getstatic index, 3)) :
    CmdK p l e R s m args below meth c Q x0 s0 met hd d G pc ls st (pStQ q.1 (pc + 3) ls st G) := k_sgets (st := st) hlink hsame (fun H h => h.2.2.1 q hq) hown hx hb hg
/-- the exceptions whose fields nobody reads -/
def tx0 (t : Nat) : Bool := Nat.ble 23 t && Nat.ble t 26
theorem k_throw0 {t ik ic : Nat} {own : String} {names : List String} (ht : tx0 t = true) (hl : l.stackTraces = false) (hown : s.vm.findClass own = some m.cls) (hcls : Bundle.fit (cNm t) = true) (hnames : ∀ n ∈ names, Bundle.fit n = true) (hnl : names.length ≤ 6)
    (hk : (Cond.classLink own ik (cNm t)).before args s = true) (hini : (Cond.initialized (cNm t)).before args s = true) (hat : ∀ w ∈ vx_at0 own ic (cNm t) names, w.before args s = true) (hgood : ∀ w ∈ Cond.classLink own ik (cNm t) :: Cond.initialized (cNm t) :: vx_at0 own ic (cNm t) names, vx_ot w = true)
    (hlk : meth.locks = false) (hout : ∀ x ∈ c.exceptionTable.toList, covers x (pc + 7) = false) (hno : ∀ t, hd t = none) (hRf : 2 * d + 20 ≤ R.frames) (hRl : 260 * d + 4000 ≤ R.locals) (hst : st.length ≤ 40) (hx : p.tables.exec = Jvm.exec) (hb : c.code = cc)
    (d0 : decode cc pc = .ok (.new ik, 3)) (d3 : decode cc (pc + 3) = .ok (.dup, 1)) (d4 : decode cc (pc + 4) = .ok (.invokespecial ic, 3)) (d7 : decode cc (pc + 7) = .ok (.athrow, 1)) :
    CmdK p l e R s m args below meth c Q x0 s0 met hd d G pc ls st (cX (gX G) (nw G t 6)) := by
  intro g1 g2 g3 hE lsA H locs e1 e2 e3 e4 e5 e6
  have g2' : gX G + 1 - x0 ≤ R.cells := g2
  have g3' : gS G + 6 - s0 ≤ R.slots := g3
  have h20 := e2
  obtain ⟨d1, d2, ⟨D, cA, hKK, hcc⟩, d5, d6⟩ := e2
  rcases hE with ⟨-, hR1, hR2, hQ⟩ | ⟨h, hs, -⟩
  · subst hQ
    have r1 : R.cells = gX G + 1 - x0 := hR1
    have r2 : R.slots = gS G + 6 - s0 := hR2
    have hcs := cat_sum st
    have hStat := d6
    have tr : t = 23 ∨ t = 24 ∨ t = 25 ∨ t = 26 := by
      have h1 : 23 ≤ t ∧ t ≤ 26 := by simpa [tx0] using ht
      omega
    have htc : tcl t = true := by rcases tr with rfl | rfl | rfl | rfl <;> decide
    have hte : tex t = true := by rcases tr with rfl | rfl | rfl | rfl <;> decide
    have hcl0 : cL t = 0 := by rcases tr with rfl | rfl | rfl | rfl <;> rfl
    refine vx_throw0 hx hb hl hown hcls hnames hk hini hat hgood hStat.2.2.2.1 hStat.2.2.2.2.1 e1.sz d0 d3 d4 d7 hout (by omega) (by omega) (by omega) (by omega) hlk (fun t' ce a1 a2 a3 a4 a5 a6 => ?_) e4 (by omega) (by omega)
    have hT' : gT (nw G t 6) H.size = t := by rw [← d1]; exact nw_T
    refine ⟨by rw [d1], ?_, by rw [hT'], by rw [hT']; exact hte, by rw [← d1]; exact d2⟩
    refine HpA.moved a1 (h20.new a2 a3 (fun D2 cA2 hK2 => ?_))
    refine Or.inr ⟨ce, by rw [d1]; exact a4, by rw [a5]; rfl, (by rw [a5]; intro z; cases z), fun _ => a5, Or.inl ⟨by rw [nw_T]; exact htc, ?_, fun k hk2 => ?_⟩⟩
    · rw [nw_T]
      exact Option.some.inj (a6.symm.trans (hK2.1 t htc).2.1)
    · rw [nw_T, hcl0] at hk2
      exact absurd hk2 (Nat.not_lt_zero _)
  · rw [hno] at hs; cases hs
end KSM

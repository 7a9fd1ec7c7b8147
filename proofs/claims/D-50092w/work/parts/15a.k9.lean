/-! LAMBDAS: the sites, the calls -/
section KLM
variable {p : Program} {l : Launch} {e : Env} {R : Room} {s : State} {m : MethodId} {args : Array Value} {below : List Frame} {meth : Method} {c : Code} {Q : State → Prop} {x0 s0 : Nat}
variable {met : Nat → Nat → List Value → Hp → Out → Hp → Prop} {hd : Nat → Option Nat} {d : Nat} {G : Hp} {pc : Nat} {ls st : List Value} {cc : ByteArray}
theorem k_lamC {t index : Nat} (ht : tlm t = true) (h28 : t ≤ 28) (hnm : s.methodNamed? (lm4 t).1 = some m) (hpc : pc = (lm4 t).2.1) (hx : p.tables.exec = Jvm.exec) (hb : c.code = cc) (hg : decode cc pc = .ok (.invokedynamic index, 5)) (hRl : 260 * d + 4000 ≤ R.locals) :
    CmdK p l e R s m args below meth c Q x0 s0 met hd d G pc ls st (pLamC (300 + t) (pc + 5) ls st G) := by
  unfold pLamC
  refine k_if (fun h0 => ?_) (fun _ => k_no)
  intro g1 g2 g3 kk lsA H locs e1 e2 e3 e4 e5 e6 T hT X
  obtain ⟨m', k, i0, p0, cf, q1, q2, -, -, q3⟩ := (e3.2 t ht).2.1
  cases hnm.symm.trans q1
  rw [if_pos h28, ← hpc] at q3
  have hcat := cat_sum st
  have hst := of_decide_eq_true h0
  have hpl : e.platform.lambdaLinkWords = 3072 := by rw [X.admits.platform]
  obtain ⟨tt, a1, b1⟩ := kk lsA H locs e1 e2 e3 e4 e5 e6 T hT X
  exact ⟨tt, X.lambdaConstant hx (g := F0 m pc lsA st) rfl e1.sz (by rw [hb]; exact hg) q2 q3 (by rw [hpl]; show 2 * 0 + (st.map fun v => v.category).sum + 3072 ≤ _; omega) a1, b1⟩
theorem lm_narrow {t : Nat} {vals : List Value} (hv : vals.length = lmL t) (hn : ∀ k, k < lmL t → ∃ v, vals[k]? = some v ∧ narrow (lmTy t k) v = v) : ((lmTys t).zip vals).map (fun x => narrow x.1 x.2) = vals := by
  apply List.ext_getElem?
  intro k
  by_cases hk : k < lmL t
  · obtain ⟨v, h1, h2⟩ := hn k hk
    have h3 : (lmTys t)[k]? = some (lmTy t k) := by
      unfold lmTy
      rw [List.getD_eq_getElem?_getD]
      have : k < (lmTys t).length := hk
      rw [List.getElem?_eq_getElem this]
      rfl
    have h4 : ((lmTys t).zip vals)[k]? = some (lmTy t k, v) := List.getElem?_zip_eq_some.mpr ⟨h3, h1⟩
    rw [List.getElem?_map, h4, h1]
    exact congrArg some h2
  · have hl : (lmTys t).length = lmL t := rfl
    rw [List.getElem?_eq_none (l := vals) (by rw [hv]; exact Nat.not_lt.mp hk), List.getElem?_eq_none]
    rw [List.length_map, List.length_zip, hv, hl]
    omega
theorem k_lamG {t index : Nat} {vals rest : List Value} {G' : Hp} (ht : tlm t = true) (h28 : ¬ t ≤ 28) (hnm : s.methodNamed? (lm4 t).1 = some m) (hpc : pc = (lm4 t).2.1) (hix : index = (lm4 t).2.2.1) (h0 : (Cond.instantiable "java/lang/Object" 0).before #[] s = true)
    (hx : p.tables.exec = Jvm.exec) (hb : c.code = cc) (hg : decode cc pc = .ok (.invokedynamic index, 5)) (hRl : 260 * d + 4000 ≤ R.locals) (hst : (vals.reverse ++ rest).length ≤ 8)
    (hv : vals.length = lmL t) (hn : ∀ k, k < lmL t → ∃ v, vals[k]? = some v ∧ narrow (lmTy t k) v = v ∧ fits (lmTy t k) v = true ∧ fval G' (gX G) k (lmTy t k) = v)
    (hK : gK G' = gK G) (hX : gX G' = gX G + 1) (hS : gS G' = gS G + lmL t) (hT : ∀ q, q ≠ gX G → gT G' q = gT G q) (hN : ∀ q, q ≠ gX G → gN G' q = gN G q) (hI : ∀ q k, q ≠ gX G → gI G' q k = gI G q k) (hJ : ∀ q k, q ≠ gX G → gJ G' q k = gJ G q k) (hR : ∀ q k, q ≠ gX G → gR G' q k = gR G q k) (hT0 : gT G' (gX G) = t) :
    CmdK p l e R s m args below meth c Q x0 s0 met hd d G pc ls (vals.reverse ++ rest) (cJ (pc + 5) ls (.ref (gX G) :: rest) G') := by
  intro g1 g2 g3 kk lsA H locs e1 e2 e3 e4 e5 e6 T hTh X
  obtain ⟨hlF, ⟨m', k, i0, p0, cf, q1, q2, q4, q5, q3⟩, -⟩ := e3.2 t ht
  cases hnm.symm.trans q1
  rw [if_neg h28, ← hpc] at q3
  obtain ⟨bsm, nt, nm, desc, site, w1, w2, w3, w4⟩ := shape_site q5
  have hsh := lm_shape ht
  simp only [lmShape, Bool.and_eq_true, decide_eq_true_eq] at hsh
  have hcap : site.parameters = lmTys t := w4.trans hsh.2
  obtain ⟨kc, tk, methM, cd, cfM, file, target, r0, iface, tc, z1, z2, z3, z4, -⟩ := hlF.spec ht h0
  have hcat := cat_sum (vals.reverse ++ rest)
  have hpl : e.platform.lambdaLinkWords = 3072 := by rw [X.admits.platform]
  have hnr : ((kc.instanceTypes.toList.zip vals).map fun x => narrow x.1 x.2) = vals := by
    rw [z4]
    exact lm_narrow hv fun k hk => by obtain ⟨v, a, b, -⟩ := hn k hk; exact ⟨v, a, b⟩
  have hnl : ((kc.instanceTypes.toList.zip vals).map fun x => narrow x.1 x.2).length = lmL t := by rw [hnr]; exact hv
  rw [hX] at g2
  rw [hS] at g3
  have hfit : ∀ i v, ((kc.instanceTypes.toList.zip vals).map fun x => narrow x.1 x.2).toArray[i]? = some v → s.fitsSlot (gA G (200 + t)) .none i v = true := by
    intro i v hi
    rw [hnr, List.getElem?_toArray] at hi
    have hlt : i < lmL t := by
      rw [← hv]
      exact (List.getElem?_eq_some_iff.mp hi).1
    obtain ⟨v', a1, a2, a3, a4⟩ := hn i hlt
    cases hi.symm.trans a1
    have h3 : (lmTys t)[i]? = some (lmTy t i) := by
      unfold lmTy
      rw [List.getD_eq_getElem?_getD]
      have : i < (lmTys t).length := hlt
      rw [List.getElem?_eq_getElem this]
      rfl
    simp [State.fitsSlot, State.slotType?, z1, z2, z4, h3, a3]
  obtain ⟨X', step⟩ := X.lambdaMakes hx (g := F0 m pc lsA (vals.reverse ++ rest)) rfl e1.sz (by rw [hb]; exact hg) q2 q3 q4 (by rw [hix]; exact w1) w2 (parseLong_of_parse w3) (vals := vals) (rest := rest) (by rw [hv, hcap]; rfl) rfl z1
    (by rw [hpl]; show 2 * 0 + ((vals.reverse ++ rest).map fun v => v.category).sum + 3072 ≤ _; omega) (by omega) (by rw [hnl]; omega) hfit
  rw [hnr] at X' step
  have hgx := e2.1
  have hp' : HpA s (H.push { cls := gA G (200 + t), slots := vals.toArray, vm := .none }) G' := by
    refine e2.newG hK hX hT hN hI hJ hR (by rw [Array.size_push]) (fun q hq => by rw [Array.getElem?_push, if_neg (Nat.ne_of_lt hq)]) (fun D2 cA2 hK2 => ?_)
    refine Or.inr ⟨_, by rw [hgx, Array.getElem?_push_size], rfl, (by intro z; cases z), fun _ => rfl, Or.inr (Or.inr ⟨by rw [hT0]; exact ht, by rw [hT0, gA_gK hK], fun j hj => ?_⟩)⟩
    rw [hT0] at hj ⊢
    obtain ⟨v, a1, a2, a3, a4⟩ := hn j hj
    show vals.toArray[j]? = _
    rw [List.getElem?_toArray, a1, a4]
  have w := kk lsA _ locs e1 hp' (e3.gk hK) (fun q hq => by rw [gB_gK hK]; exact e4 q hq) (by rw [hX]; omega) (by rw [hS]; omega)
  have a1 : gX G' - x0 = gX G - x0 + 1 := by rw [hX]; omega
  have a2 : gS G' - s0 = gS G - s0 + vals.toArray.size := by rw [hS, List.size_toArray, hv]; omega
  rw [a1, a2] at w
  obtain ⟨tt, b1, b2⟩ := w (T.pushCell { cls := gA G (200 + t), slots := vals.toArray, vm := .none }) (by rw [← hTh]; rfl) X'
  have hsz : T.heap.size = gX G := by rw [hTh]; exact hgx.symm
  rw [hsz] at step
  exact ⟨tt, step tt b1, b2⟩
end KLM

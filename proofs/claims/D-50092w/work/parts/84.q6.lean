/-! THE COMPONENT's questions: ballot, order, progress, request, answer -/
theorem irB_n0 {x : Int32} {n : Nat} (h2 : n < 2 ^ 31) : irB x 0 (nI n - 1) = inb x n := by
  by_cases h1 : 1 ≤ n
  · exact irB_inb h1 h2
  · have : n = 0 := by omega
    subst this
    have e1 : inb x 0 = false := by
      rw [Bool.eq_false_iff]
      intro z
      have := inb_iff.mp z
      unfold vp_in at this
      exact this (Or.inr (Nat.zero_le _))
    rw [e1]
    unfold irB
    by_cases q : 0 ≤ x
    · have : ¬ x ≤ nI 0 - 1 := by
        rw [Int32.le_iff_toInt_le] at q ⊢
        have h1 : (nI 0 - 1 : Int32).toInt = -1 := by decide
        have h0 : (0 : Int32).toInt = 0 := rfl
        rw [h1]; omega
      rw [decide_eq_false this, Bool.and_false]
    · rw [decide_eq_false q, Bool.false_and]
section
variable {d b n x m K A z hn : Nat} {G : Hp} {s : Bs} {c w r : Rw} {ow : Nat → Nat} {hr : Nat → Rw} {sv : Option Rw}
set_option maxHeartbeats 4000000
set_option maxRecDepth 20000
theorem s_ballot1 {a p : Int32} (hC : CW c w K A) (h : XW ow G x c w K A z b s m r hr hn sv) : XP PP (d + 3) 62 0 [.ref x, .int a, .int p] [] G = if irB a 0 (nI A - 1) = true ∧ irB p 0 (nI K - 1) = true then some (.inl (some (.int (r (78 + 5 * cl a + cl p)))), G) else thr 23 G := by
  have sc := fun d => s_ckAsker (d := d) (a := a) hC h
  have sc2 := fun d => s_ckKind (d := d) (a := p) hC h
  obtain ⟨hh, hx, hxb, hBB, hOW, hz, hRJ, hXH⟩ := h; subst hz; obtain ⟨i0, ⟨hgb, hS, hoz, h17, hBI, hTY, hBQ⟩, hLB, hbx, hzx, hcx, htx, hZL⟩ := hBB; have hC5 := hC.K5; have hC8 := hC.A8; have hn40 := hRJ.n40; have tx : gT G x = 1 := hx.2.2.2.2.1; have tb : gT G b = 6 := i0.T (j := 0) (by omega); have rb : ∀ k, gR G b k = bR (gA G) b s 0 k := fun k => i0.R (j := 0) (by omega); have ib : ∀ k, gI G b k = s.1 0 k := fun k => i0.I (j := 0) (by omega); have tj : ∀ j, j < 21 → gT G (b + j) = bT j := fun j hj => i0.T hj; have nj : ∀ j, j < 21 → gN G (b + j) = bN j := fun j hj => (i0 j hj).2.1; have ij : ∀ j k, j < 21 → gI G (b + j) k = s.1 j k := fun j k hj => i0.I hj; have rj : ∀ j k, j < 21 → gR G (b + j) k = bR (gA G) b s j k := fun j k hj => i0.R hj; have hS' := hS; have sK := fun d => s_suClassesG (d := d) hS; have sA := fun d => s_suAskersG (d := d) hS; obtain ⟨zT, zR0, zR1, zR2, zR3, zR4, zR5, zR6, zT1, zT2, zT5, zT6, zT7, zN5, zN6, zN7, zK, zA, zW, zc3, zc4, zc5, zc6, zc7⟩ := hS; have zT' := zT
  by_cases q : irB a 0 (nI A - 1) = true
  · by_cases q2 : irB p 0 (nI K - 1) = true
    · rw [if_pos ⟨q, q2⟩]
      obtain ⟨a', ha, rfl⟩ := irB_nI hC.1.2.2.2.2.1 (by omega) q
      obtain ⟨p', hp, rfl⟩ := irB_nI hC.1.2.1 (by omega) q2
      have j0 : cl (nI a') = a' := nI_clamp (by omega)
      have j00 : cl (nI p') = p' := nI_clamp (by omega)
      have j1 : inb (nI (5 * a' + p')) 40 = true := inb_nI (by omega) (by omega)
      have j2 : (nI (5 * a' + p')).toNatClampNeg = 5 * a' + p' := nI_clamp (by omega)
      have e1 := hBI.ba ha hp hC5
      have e2 : (5 : Int32) * nI a' = nI (5 * a') := pk_mul 5 a'
      have e3 : 78 + (5 * a' + p') = 78 + 5 * a' + p' := by omega
      rw [e3] at e1
      simp [x62_0, x62_1, x62_2, x62_5, x62_6, x62_7, x62_10, x62_11, x62_14, x62_17, x62_18, x62_19, x62_20, x62_21, x62_22, x62_23, bst_T0, bst_T, bst_N, bst_I0, bst_I, bst_R0, bst_R, bst_B, bst_X, bst_S, bst_A, bst_sI, bst_sI0, bst_sC, bst_sY, bst_sE, bI_s, bI_o, bI_2, bI_bI, bC_1, bY_1, bE_1, bT, bN, bR, rf_ref, rf_va, rf_null, c1_int, c1_ref, c1_UV, rvo_n, rvo_r, c1_null, c1_va, up_s, up_o, va_rf_some, va_rf_none, litA, litB, litM, nI_add, okZ_0, okZ_1, okZ_zb, zb_0, gB_add, inb_lit, cl_lit, Nat.lt_irrefl, ↓reduceIte, if_true, if_false, RP_v, RP_n, tx, hxb, tb, rb, ib, tj, nj, ij, rj, sK, sA, zT, zR0, zR1, zR2, zR3, zR4, zR5, zR6, zT1, zT2, zT5, zT6, zT7, zN5, zN6, zN7, zc3, zc4, zc5, zc6, zc7, sc, sc2, q, q2, j0, j00, j1, j2, e1, e2]
    · simp [x62_0, x62_1, x62_2, x62_5, x62_6, x62_7, x62_10, x62_11, x62_14, x62_17, x62_18, x62_19, x62_20, x62_21, x62_22, x62_23, rf_ref, rf_va, rf_null, c1_int, c1_ref, c1_UV, rvo_n, rvo_r, c1_null, c1_va, up_s, up_o, va_rf_some, va_rf_none, litA, litB, litM, nI_add, okZ_0, okZ_1, okZ_zb, zb_0, gB_add, inb_lit, cl_lit, Nat.lt_irrefl, ↓reduceIte, if_true, if_false, RP_v, RP_n, tx, sc, sc2, q, q2, RP_thr (show PP.2.2 62 7 23 = none from rfl)]
  · simp [x62_0, x62_1, x62_2, x62_5, x62_6, x62_7, x62_10, x62_11, x62_14, x62_17, x62_18, x62_19, x62_20, x62_21, x62_22, x62_23, rf_ref, rf_va, rf_null, c1_int, c1_ref, c1_UV, rvo_n, rvo_r, c1_null, c1_va, up_s, up_o, va_rf_some, va_rf_none, litA, litB, litM, nI_add, okZ_0, okZ_1, okZ_zb, zb_0, gB_add, inb_lit, cl_lit, Nat.lt_irrefl, ↓reduceIte, if_true, if_false, RP_v, RP_n, tx, sc, q, RP_thr (show PP.2.2 62 2 23 = none from rfl)]
theorem s_order1 {p : Int32} (hC : CW c w K A) (h : XW ow G x c w K A z b s m r hr hn sv) : XP PP (d + 3) 63 0 [.ref x, .int p] [] G = if irB p 0 (nI K - 1) = true then some (.inl (some (.int (r (10 + cl p)))), G) else thr 23 G := by
  have sc2 := fun d => s_ckKind (d := d) (a := p) hC h
  obtain ⟨hh, hx, hxb, hBB, hOW, hz, hRJ, hXH⟩ := h; subst hz; obtain ⟨i0, ⟨hgb, hS, hoz, h17, hBI, hTY, hBQ⟩, hLB, hbx, hzx, hcx, htx, hZL⟩ := hBB; have hC5 := hC.K5; have hC8 := hC.A8; have hn40 := hRJ.n40; have tx : gT G x = 1 := hx.2.2.2.2.1; have tb : gT G b = 6 := i0.T (j := 0) (by omega); have rb : ∀ k, gR G b k = bR (gA G) b s 0 k := fun k => i0.R (j := 0) (by omega); have ib : ∀ k, gI G b k = s.1 0 k := fun k => i0.I (j := 0) (by omega); have tj : ∀ j, j < 21 → gT G (b + j) = bT j := fun j hj => i0.T hj; have nj : ∀ j, j < 21 → gN G (b + j) = bN j := fun j hj => (i0 j hj).2.1; have ij : ∀ j k, j < 21 → gI G (b + j) k = s.1 j k := fun j k hj => i0.I hj; have rj : ∀ j k, j < 21 → gR G (b + j) k = bR (gA G) b s j k := fun j k hj => i0.R hj; have hS' := hS; have sK := fun d => s_suClassesG (d := d) hS; have sA := fun d => s_suAskersG (d := d) hS; obtain ⟨zT, zR0, zR1, zR2, zR3, zR4, zR5, zR6, zT1, zT2, zT5, zT6, zT7, zN5, zN6, zN7, zK, zA, zW, zc3, zc4, zc5, zc6, zc7⟩ := hS; have zT' := zT
  by_cases q2 : irB p 0 (nI K - 1) = true
  · rw [if_pos q2]
    obtain ⟨p', hp, rfl⟩ := irB_nI hC.1.2.1 (by omega) q2
    have j00 : cl (nI p') = p' := nI_clamp (by omega)
    have j1 : inb (nI p') 5 = true := inb_nI (by omega) (by omega)
    have j2 : (nI p').toNatClampNeg = p' := nI_clamp (by omega)
    have e1 := hBI.o8 hp
    simp [x63_0, x63_1, x63_2, x63_5, x63_6, x63_9, x63_12, x63_13, x63_14, bst_T0, bst_T, bst_N, bst_I0, bst_I, bst_R0, bst_R, bst_B, bst_X, bst_S, bst_A, bst_sI, bst_sI0, bst_sC, bst_sY, bst_sE, bI_s, bI_o, bI_2, bI_bI, bC_1, bY_1, bE_1, bT, bN, bR, rf_ref, rf_va, rf_null, c1_int, c1_ref, c1_UV, rvo_n, rvo_r, c1_null, c1_va, up_s, up_o, va_rf_some, va_rf_none, litA, litB, litM, nI_add, okZ_0, okZ_1, okZ_zb, zb_0, gB_add, inb_lit, cl_lit, Nat.lt_irrefl, ↓reduceIte, if_true, if_false, RP_v, RP_n, tx, hxb, tb, rb, ib, tj, nj, ij, rj, sK, sA, zT, zR0, zR1, zR2, zR3, zR4, zR5, zR6, zT1, zT2, zT5, zT6, zT7, zN5, zN6, zN7, zc3, zc4, zc5, zc6, zc7, sc2, q2, j00, j1, j2, e1]
  · simp [x63_0, x63_1, x63_2, x63_5, x63_6, x63_9, x63_12, x63_13, x63_14, rf_ref, rf_va, rf_null, c1_int, c1_ref, c1_UV, rvo_n, rvo_r, c1_null, c1_va, up_s, up_o, va_rf_some, va_rf_none, litA, litB, litM, nI_add, okZ_0, okZ_1, okZ_zb, zb_0, gB_add, inb_lit, cl_lit, Nat.lt_irrefl, ↓reduceIte, if_true, if_false, RP_v, RP_n, tx, sc2, q2, RP_thr (show PP.2.2 63 2 23 = none from rfl)]
theorem s_progress1 (hC : CW c w K A) (h : XW ow G x c w K A z b s m r hr hn sv) : XP PP d 46 0 [.ref x] [] G = some (.inl (some (.int (r 8))), G) := by
  obtain ⟨hh, hx, hxb, hBB, hOW, hz, hRJ, hXH⟩ := h; subst hz; obtain ⟨i0, ⟨hgb, hS, hoz, h17, hBI, hTY, hBQ⟩, hLB, hbx, hzx, hcx, htx, hZL⟩ := hBB; have hC5 := hC.K5; have hC8 := hC.A8; have hn40 := hRJ.n40; have tx : gT G x = 1 := hx.2.2.2.2.1; have tb : gT G b = 6 := i0.T (j := 0) (by omega); have rb : ∀ k, gR G b k = bR (gA G) b s 0 k := fun k => i0.R (j := 0) (by omega); have ib : ∀ k, gI G b k = s.1 0 k := fun k => i0.I (j := 0) (by omega); have tj : ∀ j, j < 21 → gT G (b + j) = bT j := fun j hj => i0.T hj; have nj : ∀ j, j < 21 → gN G (b + j) = bN j := fun j hj => (i0 j hj).2.1; have ij : ∀ j k, j < 21 → gI G (b + j) k = s.1 j k := fun j k hj => i0.I hj; have rj : ∀ j k, j < 21 → gR G (b + j) k = bR (gA G) b s j k := fun j k hj => i0.R hj; have hS' := hS; have sK := fun d => s_suClassesG (d := d) hS; have sA := fun d => s_suAskersG (d := d) hS; obtain ⟨zT, zR0, zR1, zR2, zR3, zR4, zR5, zR6, zT1, zT2, zT5, zT6, zT7, zN5, zN6, zN7, zK, zA, zW, zc3, zc4, zc5, zc6, zc7⟩ := hS; have zT' := zT
  rcases hBQ.2.2.2.2.2.2 with ⟨a1, a2, -⟩ | ⟨q, i, a1, a2, a3, a4, a5, a6, -⟩
  · simp [x46_0, x46_1, x46_4, x46_7n, x46_7r, x46_10, x46_11, x46_14, x46_15, x46_18, x46_21, x46_24, bst_T0, bst_T, bst_N, bst_I0, bst_I, bst_R0, bst_R, bst_B, bst_X, bst_S, bst_A, bst_sI, bst_sI0, bst_sC, bst_sY, bst_sE, bI_s, bI_o, bI_2, bI_bI, bC_1, bY_1, bE_1, bT, bN, bR, rf_ref, rf_va, rf_null, c1_int, c1_ref, c1_UV, rvo_n, rvo_r, c1_null, c1_va, up_s, up_o, va_rf_some, va_rf_none, litA, litB, litM, nI_add, okZ_0, okZ_1, okZ_zb, zb_0, gB_add, inb_lit, cl_lit, Nat.lt_irrefl, ↓reduceIte, if_true, if_false, RP_v, RP_n, tx, hxb, tb, rb, ib, tj, nj, ij, rj, sK, sA, zT, zR0, zR1, zR2, zR3, zR4, zR5, zR6, zT1, zT2, zT5, zT6, zT7, zN5, zN6, zN7, zc3, zc4, zc5, zc6, zc7, a1, a2]
  · simp [x46_0, x46_1, x46_4, x46_7n, x46_7r, x46_10, x46_11, x46_14, x46_15, x46_18, x46_21, x46_24, bst_T0, bst_T, bst_N, bst_I0, bst_I, bst_R0, bst_R, bst_B, bst_X, bst_S, bst_A, bst_sI, bst_sI0, bst_sC, bst_sY, bst_sE, bI_s, bI_o, bI_2, bI_bI, bC_1, bY_1, bE_1, bT, bN, bR, rf_ref, rf_va, rf_null, c1_int, c1_ref, c1_UV, rvo_n, rvo_r, c1_null, c1_va, up_s, up_o, va_rf_some, va_rf_none, litA, litB, litM, nI_add, okZ_0, okZ_1, okZ_zb, zb_0, gB_add, inb_lit, cl_lit, Nat.lt_irrefl, ↓reduceIte, if_true, if_false, RP_v, RP_n, tx, hxb, tb, rb, ib, tj, nj, ij, rj, sK, sA, zT, zR0, zR1, zR2, zR3, zR4, zR5, zR6, zT1, zT2, zT5, zT6, zT7, zN5, zN6, zN7, zc3, zc4, zc5, zc6, zc7, a1, a6.1, a6.2.1, a3]
theorem s_request1 {a v : Int32} (hC : CW c w K A) (h : XW ow G x c w K A z b s m r hr hn sv) : XP PP (d + 5) 64 0 [.ref x, .int a, .int v, UV] [] G = if irB v 0 4 = false then thr 24 G else match fst (ixB r a) (cl (r 9)) with
    | some i => some (.inl (some (.int (r (118 + 6 * i + (cl v + 1))))), G)
    | none => thr 26 G := by
  obtain ⟨hh, hx, hxb, hBB, hOW, hz, hRJ, hXH⟩ := h; subst hz; obtain ⟨i0, ⟨hgb, hS, hoz, h17, hBI, hTY, hBQ⟩, hLB, hbx, hzx, hcx, htx, hZL⟩ := hBB; have hC5 := hC.K5; have hC8 := hC.A8; have hn40 := hRJ.n40; have tx : gT G x = 1 := hx.2.2.2.2.1; have tb : gT G b = 6 := i0.T (j := 0) (by omega); have rb : ∀ k, gR G b k = bR (gA G) b s 0 k := fun k => i0.R (j := 0) (by omega); have ib : ∀ k, gI G b k = s.1 0 k := fun k => i0.I (j := 0) (by omega); have tj : ∀ j, j < 21 → gT G (b + j) = bT j := fun j hj => i0.T hj; have nj : ∀ j, j < 21 → gN G (b + j) = bN j := fun j hj => (i0 j hj).2.1; have ij : ∀ j k, j < 21 → gI G (b + j) k = s.1 j k := fun j k hj => i0.I hj; have rj : ∀ j k, j < 21 → gR G (b + j) k = bR (gA G) b s j k := fun j k hj => i0.R hj; have hS' := hS; have sK := fun d => s_suClassesG (d := d) hS; have sA := fun d => s_suAskersG (d := d) hS; obtain ⟨zT, zR0, zR1, zR2, zR3, zR4, zR5, zR6, zT1, zT2, zT5, zT6, zT7, zN5, zN6, zN7, zK, zA, zW, zc3, zc4, zc5, zc6, zc7⟩ := hS; have zT' := zT
  have sf := s_findC (d := d) (sr := a) i0 hBQ hRJ (by have := hLB.1.2.1; omega)
  unfold findC at sf
  by_cases q : irB v 0 4 = false
  · rw [if_pos q]
    simp [x64_0, x64_1, x64_2, x64_3, x64_6, x64_9, x64_10, x64_13, x64_14, x64_17, x64_18, x64_19n, x64_19r, x64_22, x64_23, x64_26, x64_27, x64_30, x64_31, x64_60, x64_61, x64_64, x64_65, x64_66, x64_69, x64_70, x64_71, x64_74, x64_75, x64_76, x64_77, x64_80, x64_83, x64_86, x64_87, x64_90, x64_93, x64_96, x64_97, x64_100, x64_101, x64_102, x64_105, rf_ref, rf_va, rf_null, c1_int, c1_ref, c1_UV, rvo_n, rvo_r, c1_null, c1_va, up_s, up_o, va_rf_some, va_rf_none, litA, litB, litM, nI_add, okZ_0, okZ_1, okZ_zb, zb_0, gB_add, inb_lit, cl_lit, Nat.lt_irrefl, ↓reduceIte, if_true, if_false, RP_v, RP_n, s_inRange, q, s_ckArg, RP_thr (show PP.2.2 64 6 24 = none from rfl)]
  · rw [if_neg q]
    have q' := bt q
    rcases sf with ⟨g1, g2⟩ | ⟨i, q0, g1, g2, g3, g4, g5⟩
    · rw [g1]
      have e0 := zb_false
      have ck := fun d => s_ckElem (d := d) (G := G) (q := false)
      rw [zb_false] at ck
      simp [x64_0, x64_1, x64_2, x64_3, x64_6, x64_9, x64_10, x64_13, x64_14, x64_17, x64_18, x64_19n, x64_19r, x64_22, x64_23, x64_26, x64_27, x64_30, x64_31, x64_60, x64_61, x64_64, x64_65, x64_66, x64_69, x64_70, x64_71, x64_74, x64_75, x64_76, x64_77, x64_80, x64_83, x64_86, x64_87, x64_90, x64_93, x64_96, x64_97, x64_100, x64_101, x64_102, x64_105, bst_T0, bst_T, bst_N, bst_I0, bst_I, bst_R0, bst_R, bst_B, bst_X, bst_S, bst_A, bst_sI, bst_sI0, bst_sC, bst_sY, bst_sE, bI_s, bI_o, bI_2, bI_bI, bC_1, bY_1, bE_1, bT, bN, bR, rf_ref, rf_va, rf_null, c1_int, c1_ref, c1_UV, rvo_n, rvo_r, c1_null, c1_va, up_s, up_o, va_rf_some, va_rf_none, litA, litB, litM, nI_add, okZ_0, okZ_1, okZ_zb, zb_0, gB_add, inb_lit, cl_lit, Nat.lt_irrefl, ↓reduceIte, if_true, if_false, RP_v, RP_n, tx, hxb, tb, rb, ib, tj, nj, ij, rj, sK, sA, zT, zR0, zR1, zR2, zR3, zR4, zR5, zR6, zT1, zT2, zT5, zT6, zT7, zN5, zN6, zN7, zc3, zc4, zc5, zc6, zc7, s_inRange, q', s_ckArg, g2, ck, RP_thr (show PP.2.2 64 27 26 = none from rfl)]
    · rw [g1]
      have ck := fun d => s_ckElem (d := d) (G := G) (q := true)
      rw [zb_true] at ck
      obtain ⟨k, hk, rfl⟩ := irB_lt (n := 4) (by omega) q'
      have j0 : cl (nI k) = k := nI_clamp (by omega)
      dsimp only
      rw [j0]
      have hpre : XP PP (d + 5) 64 0 [.ref x, .int a, .int (nI k), UV] [] G = XP PP (d + 5) 64 31 [.ref x, .int a, .int (nI k), .ref q0] [.int (nI k)] G := by
        simp [x64_0, x64_1, x64_2, x64_3, x64_6, x64_9, x64_10, x64_13, x64_14, x64_17, x64_18, x64_19n, x64_19r, x64_22, x64_23, x64_26, x64_27, x64_30, bst_T0, bst_T, bst_N, bst_I0, bst_I, bst_R0, bst_R, bst_B, bst_X, bst_S, bst_A, bst_sI, bst_sI0, bst_sC, bst_sY, bst_sE, bI_s, bI_o, bI_2, bI_bI, bC_1, bY_1, bE_1, bT, bN, bR, rf_ref, rf_va, rf_null, c1_int, c1_ref, c1_UV, rvo_n, rvo_r, c1_null, c1_va, up_s, up_o, va_rf_some, va_rf_none, litA, litB, litM, nI_add, okZ_0, okZ_1, okZ_zb, zb_0, gB_add, inb_lit, cl_lit, Nat.lt_irrefl, ↓reduceIte, if_true, if_false, RP_v, RP_n, tx, hxb, tb, rb, ib, tj, nj, ij, rj, sK, sA, zT, zR0, zR1, zR2, zR3, zR4, zR5, zR6, zT1, zT2, zT5, zT6, zT7, zN5, zN6, zN7, zc3, zc4, zc5, zc6, zc7, s_inRange, q', s_ckArg, g4, ck]
      rw [hpre]
      obtain ⟨t1, t2, t3, t4, t5, t6⟩ := g2
      rcases (by omega : k = 0 ∨ k = 1 ∨ k = 2 ∨ k = 3 ∨ k = 4) with rfl | rfl | rfl | rfl | rfl
      · have e : (nI 0 : Int32) = 0 := rfl
        simp [x64_31, x64_60, x64_61, x64_64, x64_65, x64_66, x64_69, x64_70, x64_71, x64_74, x64_75, x64_76, x64_77, x64_80, x64_83, x64_86, x64_87, x64_90, x64_93, x64_96, x64_97, x64_100, x64_101, x64_102, x64_105, bst_T0, bst_T, bst_N, bst_I0, bst_I, bst_R0, bst_R, bst_B, bst_X, bst_S, bst_A, bst_sI, bst_sI0, bst_sC, bst_sY, bst_sE, bI_s, bI_o, bI_2, bI_bI, bC_1, bY_1, bE_1, bT, bN, bR, rf_ref, rf_va, rf_null, c1_int, c1_ref, c1_UV, rvo_n, rvo_r, c1_null, c1_va, up_s, up_o, va_rf_some, va_rf_none, litA, litB, litM, nI_add, okZ_0, okZ_1, okZ_zb, zb_0, gB_add, inb_lit, cl_lit, Nat.lt_irrefl, ↓reduceIte, if_true, if_false, RP_v, RP_n, tx, hxb, tb, rb, ib, tj, nj, ij, rj, sK, sA, zT, zR0, zR1, zR2, zR3, zR4, zR5, zR6, zT1, zT2, zT5, zT6, zT7, zN5, zN6, zN7, zc3, zc4, zc5, zc6, zc7, e, t1, t3]
      · have e : (nI 1 : Int32) = 1 := rfl
        simp [x64_31, x64_60, x64_61, x64_64, x64_65, x64_66, x64_69, x64_70, x64_71, x64_74, x64_75, x64_76, x64_77, x64_80, x64_83, x64_86, x64_87, x64_90, x64_93, x64_96, x64_97, x64_100, x64_101, x64_102, x64_105, bst_T0, bst_T, bst_N, bst_I0, bst_I, bst_R0, bst_R, bst_B, bst_X, bst_S, bst_A, bst_sI, bst_sI0, bst_sC, bst_sY, bst_sE, bI_s, bI_o, bI_2, bI_bI, bC_1, bY_1, bE_1, bT, bN, bR, rf_ref, rf_va, rf_null, c1_int, c1_ref, c1_UV, rvo_n, rvo_r, c1_null, c1_va, up_s, up_o, va_rf_some, va_rf_none, litA, litB, litM, nI_add, okZ_0, okZ_1, okZ_zb, zb_0, gB_add, inb_lit, cl_lit, Nat.lt_irrefl, ↓reduceIte, if_true, if_false, RP_v, RP_n, tx, hxb, tb, rb, ib, tj, nj, ij, rj, sK, sA, zT, zR0, zR1, zR2, zR3, zR4, zR5, zR6, zT1, zT2, zT5, zT6, zT7, zN5, zN6, zN7, zc3, zc4, zc5, zc6, zc7, e, t1, t4]
      · have e : (nI 2 : Int32) = 2 := rfl
        simp [x64_31, x64_60, x64_61, x64_64, x64_65, x64_66, x64_69, x64_70, x64_71, x64_74, x64_75, x64_76, x64_77, x64_80, x64_83, x64_86, x64_87, x64_90, x64_93, x64_96, x64_97, x64_100, x64_101, x64_102, x64_105, bst_T0, bst_T, bst_N, bst_I0, bst_I, bst_R0, bst_R, bst_B, bst_X, bst_S, bst_A, bst_sI, bst_sI0, bst_sC, bst_sY, bst_sE, bI_s, bI_o, bI_2, bI_bI, bC_1, bY_1, bE_1, bT, bN, bR, rf_ref, rf_va, rf_null, c1_int, c1_ref, c1_UV, rvo_n, rvo_r, c1_null, c1_va, up_s, up_o, va_rf_some, va_rf_none, litA, litB, litM, nI_add, okZ_0, okZ_1, okZ_zb, zb_0, gB_add, inb_lit, cl_lit, Nat.lt_irrefl, ↓reduceIte, if_true, if_false, RP_v, RP_n, tx, hxb, tb, rb, ib, tj, nj, ij, rj, sK, sA, zT, zR0, zR1, zR2, zR3, zR4, zR5, zR6, zT1, zT2, zT5, zT6, zT7, zN5, zN6, zN7, zc3, zc4, zc5, zc6, zc7, e, t1, t5]
      · have e : (nI 3 : Int32) = 3 := rfl
        rcases g5 with ⟨y1, y2, y3⟩ | ⟨y1, y2⟩
        · simp [x64_31, x64_60, x64_61, x64_64, x64_65, x64_66, x64_69, x64_70, x64_71, x64_74, x64_75, x64_76, x64_77, x64_80, x64_83, x64_86, x64_87, x64_90, x64_93, x64_96, x64_97, x64_100, x64_101, x64_102, x64_105, bst_T0, bst_T, bst_N, bst_I0, bst_I, bst_R0, bst_R, bst_B, bst_X, bst_S, bst_A, bst_sI, bst_sI0, bst_sC, bst_sY, bst_sE, bI_s, bI_o, bI_2, bI_bI, bC_1, bY_1, bE_1, bT, bN, bR, rf_ref, rf_va, rf_null, c1_int, c1_ref, c1_UV, rvo_n, rvo_r, c1_null, c1_va, up_s, up_o, va_rf_some, va_rf_none, litA, litB, litM, nI_add, okZ_0, okZ_1, okZ_zb, zb_0, gB_add, inb_lit, cl_lit, Nat.lt_irrefl, ↓reduceIte, if_true, if_false, RP_v, RP_n, tx, hxb, tb, rb, ib, tj, nj, ij, rj, sK, sA, zT, zR0, zR1, zR2, zR3, zR4, zR5, zR6, zT1, zT2, zT5, zT6, zT7, zN5, zN6, zN7, zc3, zc4, zc5, zc6, zc7, e, t1, t5, y1, y3]
        · have hl : r (118 + 6 * i + 4) = r (118 + 6 * i + 3) := hRJ.2.2.2.2.2.2 i (fst_spec g1).1 y2
          have y1' : ¬ Value.ref q0 = va_rf s.2.2.2.1 := fun z => y1 (by
            cases hs : s.2.2.2.1 with
            | none => rw [hs] at z; cases z
            | some q1 => rw [hs] at z; cases z; rfl)
          simp [x64_31, x64_60, x64_61, x64_64, x64_65, x64_66, x64_69, x64_70, x64_71, x64_74, x64_75, x64_76, x64_77, x64_80, x64_83, x64_86, x64_87, x64_90, x64_93, x64_96, x64_97, x64_100, x64_101, x64_102, x64_105, bst_T0, bst_T, bst_N, bst_I0, bst_I, bst_R0, bst_R, bst_B, bst_X, bst_S, bst_A, bst_sI, bst_sI0, bst_sC, bst_sY, bst_sE, bI_s, bI_o, bI_2, bI_bI, bC_1, bY_1, bE_1, bT, bN, bR, rf_ref, rf_va, rf_null, c1_int, c1_ref, c1_UV, rvo_n, rvo_r, c1_null, c1_va, up_s, up_o, va_rf_some, va_rf_none, litA, litB, litM, nI_add, okZ_0, okZ_1, okZ_zb, zb_0, gB_add, inb_lit, cl_lit, Nat.lt_irrefl, ↓reduceIte, if_true, if_false, RP_v, RP_n, tx, hxb, tb, rb, ib, tj, nj, ij, rj, sK, sA, zT, zR0, zR1, zR2, zR3, zR4, zR5, zR6, zT1, zT2, zT5, zT6, zT7, zN5, zN6, zN7, zc3, zc4, zc5, zc6, zc7, e, t1, t5, y1', hl]
      · have e : (nI 4 : Int32) = 4 := rfl
        simp [x64_31, x64_60, x64_61, x64_64, x64_65, x64_66, x64_69, x64_70, x64_71, x64_74, x64_75, x64_76, x64_77, x64_80, x64_83, x64_86, x64_87, x64_90, x64_93, x64_96, x64_97, x64_100, x64_101, x64_102, x64_105, bst_T0, bst_T, bst_N, bst_I0, bst_I, bst_R0, bst_R, bst_B, bst_X, bst_S, bst_A, bst_sI, bst_sI0, bst_sC, bst_sY, bst_sE, bI_s, bI_o, bI_2, bI_bI, bC_1, bY_1, bE_1, bT, bN, bR, rf_ref, rf_va, rf_null, c1_int, c1_ref, c1_UV, rvo_n, rvo_r, c1_null, c1_va, up_s, up_o, va_rf_some, va_rf_none, litA, litB, litM, nI_add, okZ_0, okZ_1, okZ_zb, zb_0, gB_add, inb_lit, cl_lit, Nat.lt_irrefl, ↓reduceIte, if_true, if_false, RP_v, RP_n, tx, hxb, tb, rb, ib, tj, nj, ij, rj, sK, sA, zT, zR0, zR1, zR2, zR3, zR4, zR5, zR6, zT1, zT2, zT5, zT6, zT7, zN5, zN6, zN7, zc3, zc4, zc5, zc6, zc7, e, t1, t6]
theorem s_answer1 {a v : Int32} (hC : CW c w K A) (h : XW ow G x c w K A z b s m r hr hn sv) {e : Nat} (h7 : r 7 = nI e) (he : e ≤ 9999) : XP PP (d + 1) 68 0 [.ref x, .int a, .int v] [] G = if irB v 0 5 = false then thr 24 G else if (irB a 0 59 && decide (a < r 7)) = false then thr 26 G else some (.inl (some (.int (r (358 + 6 * ((e - 1 - cl a) % 60) + cl v)))), G) := by
  obtain ⟨hh, hx, hxb, hBB, hOW, hz, hRJ, hXH⟩ := h; subst hz; obtain ⟨i0, ⟨hgb, hS, hoz, h17, hBI, hTY, hBQ⟩, hLB, hbx, hzx, hcx, htx, hZL⟩ := hBB; have hC5 := hC.K5; have hC8 := hC.A8; have hn40 := hRJ.n40; have tx : gT G x = 1 := hx.2.2.2.2.1; have tb : gT G b = 6 := i0.T (j := 0) (by omega); have rb : ∀ k, gR G b k = bR (gA G) b s 0 k := fun k => i0.R (j := 0) (by omega); have ib : ∀ k, gI G b k = s.1 0 k := fun k => i0.I (j := 0) (by omega); have tj : ∀ j, j < 21 → gT G (b + j) = bT j := fun j hj => i0.T hj; have nj : ∀ j, j < 21 → gN G (b + j) = bN j := fun j hj => (i0 j hj).2.1; have ij : ∀ j k, j < 21 → gI G (b + j) k = s.1 j k := fun j k hj => i0.I hj; have rj : ∀ j k, j < 21 → gR G (b + j) k = bR (gA G) b s j k := fun j k hj => i0.R hj; have hS' := hS; have sK := fun d => s_suClassesG (d := d) hS; have sA := fun d => s_suAskersG (d := d) hS; obtain ⟨zT, zR0, zR1, zR2, zR3, zR4, zR5, zR6, zT1, zT2, zT5, zT6, zT7, zN5, zN6, zN7, zK, zA, zW, zc3, zc4, zc5, zc6, zc7⟩ := hS; have zT' := zT
  have v21 : s.1 0 21 = r 7 := hBI 0 21 7 rfl
  have em : (if nI e < 60 then nI e else 60) = nI (min 60 e) := m_minN (x := 60) (by omega) (by omega)
  by_cases q : irB v 0 5 = false
  · rw [if_pos q]
    simp [x68_0, x68_1, x68_2, x68_3, x68_6, x68_9, x68_10, x68_11, x68_13, x68_14, x68_17, x68_20, x68_23, x68_24, x68_25, x68_28, x68_31, x68_32, x68_35, x68_38, x68_40, x68_41, x68_44, x68_47, x68_48, x68_49, x68_50, x68_51, x68_53, x68_54, x68_55, x68_56, x68_57, x68_58, rf_ref, rf_va, rf_null, c1_int, c1_ref, c1_UV, rvo_n, rvo_r, c1_null, c1_va, up_s, up_o, va_rf_some, va_rf_none, litA, litB, litM, nI_add, okZ_0, okZ_1, okZ_zb, zb_0, gB_add, inb_lit, cl_lit, Nat.lt_irrefl, ↓reduceIte, if_true, if_false, RP_v, RP_n, s_inRange, q, s_ckArg, RP_thr (show PP.2.2 68 6 24 = none from rfl)]
  · rw [if_neg q]
    have q' := bt q
    have e2 : irB a 0 (nI (min 60 e) - 1) = (irB a 0 59 && decide (a < r 7)) := by
      have e59 : (59 : Int32) = nI 60 - 1 := rfl
      rw [e59, irB_n0 (by omega), irB_n0 (by omega), h7, Bool.eq_iff_iff, Bool.and_eq_true, inb_iff, inb_iff, decide_eq_true_eq]
      constructor
      · intro z
        obtain ⟨k, hk, rfl⟩ := vp_in_of z (by omega)
        exact ⟨vp_in_nI (by omega) (by omega), (nI_ltI (by omega) (by omega)).mpr (by omega)⟩
      · intro ⟨z1, z2⟩
        obtain ⟨k, hk, rfl⟩ := vp_in_of z1 (by omega)
        rw [nI_ltI (by omega) (by omega)] at z2
        exact vp_in_nI (by omega) (by omega)
    by_cases q2 : (irB a 0 59 && decide (a < r 7)) = false
    · rw [if_pos q2]
      rw [q2] at e2
      simp [x68_0, x68_1, x68_2, x68_3, x68_6, x68_9, x68_10, x68_11, x68_13, x68_14, x68_17, x68_20, x68_23, x68_24, x68_25, x68_28, x68_31, x68_32, x68_35, x68_38, x68_40, x68_41, x68_44, x68_47, x68_48, x68_49, x68_50, x68_51, x68_53, x68_54, x68_55, x68_56, x68_57, x68_58, bst_T0, bst_T, bst_N, bst_I0, bst_I, bst_R0, bst_R, bst_B, bst_X, bst_S, bst_A, bst_sI, bst_sI0, bst_sC, bst_sY, bst_sE, bI_s, bI_o, bI_2, bI_bI, bC_1, bY_1, bE_1, bT, bN, bR, rf_ref, rf_va, rf_null, c1_int, c1_ref, c1_UV, rvo_n, rvo_r, c1_null, c1_va, up_s, up_o, va_rf_some, va_rf_none, litA, litB, litM, nI_add, okZ_0, okZ_1, okZ_zb, zb_0, gB_add, inb_lit, cl_lit, Nat.lt_irrefl, ↓reduceIte, if_true, if_false, RP_v, RP_n, tx, hxb, tb, rb, ib, tj, nj, ij, rj, sK, sA, zT, zR0, zR1, zR2, zR3, zR4, zR5, zR6, zT1, zT2, zT5, zT6, zT7, zN5, zN6, zN7, zc3, zc4, zc5, zc6, zc7, s_inRange, q', s_ckArg, s_ckElem, v21, h7, em, e2, RP_thr (show PP.2.2 68 28 26 = none from rfl)]
    · rw [if_neg q2]
      have q2' := bt q2
      rw [q2'] at e2
      obtain ⟨k, hk, rfl⟩ := irB_lt (n := 5) (by omega) q'
      have e3 := e2
      rw [irB_n0 (by omega), inb_iff] at e3
      obtain ⟨a', ha, rfl⟩ := vp_in_of e3 (by omega)
      have j0 : cl (nI k) = k := nI_clamp (by omega)
      have j00 : cl (nI a') = a' := nI_clamp (by omega)
      rw [j0, j00]
      have s1 : nI e - 1 = nI (e - 1) := nI_sub (b := 1) (by omega)
      have s2 : nI (e - 1) - nI a' = nI (e - 1 - a') := nI_sub (by omega)
      have s3 : nI (e - 1 - a') - nI (e - 1 - a') / 60 * 60 = nI ((e - 1 - a') % 60) := pk_rem (d := 60) (by omega) (by omega) (by omega)
      have s4 : (6 : Int32) * nI ((e - 1 - a') % 60) = nI (6 * ((e - 1 - a') % 60)) := pk_mul 6 _
      have hlt : (e - 1 - a') % 60 < 60 := Nat.mod_lt _ (by omega)
      have j1 : inb (nI (6 * ((e - 1 - a') % 60) + k)) 360 = true := inb_nI (by omega) (by omega)
      have j2 : (nI (6 * ((e - 1 - a') % 60) + k)).toNatClampNeg = 6 * ((e - 1 - a') % 60) + k := nI_clamp (by omega)
      have e4 := hBI.a12 (p := 6 * ((e - 1 - a') % 60) + k) (by omega)
      have e5 : 358 + (6 * ((e - 1 - a') % 60) + k) = 358 + 6 * ((e - 1 - a') % 60) + k := by omega
      rw [e5] at e4
      simp [x68_0, x68_1, x68_2, x68_3, x68_6, x68_9, x68_10, x68_11, x68_13, x68_14, x68_17, x68_20, x68_23, x68_24, x68_25, x68_28, x68_31, x68_32, x68_35, x68_38, x68_40, x68_41, x68_44, x68_47, x68_48, x68_49, x68_50, x68_51, x68_53, x68_54, x68_55, x68_56, x68_57, x68_58, bst_T0, bst_T, bst_N, bst_I0, bst_I, bst_R0, bst_R, bst_B, bst_X, bst_S, bst_A, bst_sI, bst_sI0, bst_sC, bst_sY, bst_sE, bI_s, bI_o, bI_2, bI_bI, bC_1, bY_1, bE_1, bT, bN, bR, rf_ref, rf_va, rf_null, c1_int, c1_ref, c1_UV, rvo_n, rvo_r, c1_null, c1_va, up_s, up_o, va_rf_some, va_rf_none, litA, litB, litM, nI_add, okZ_0, okZ_1, okZ_zb, zb_0, gB_add, inb_lit, cl_lit, Nat.lt_irrefl, ↓reduceIte, if_true, if_false, RP_v, RP_n, tx, hxb, tb, rb, ib, tj, nj, ij, rj, sK, sA, zT, zR0, zR1, zR2, zR3, zR4, zR5, zR6, zT1, zT2, zT5, zT6, zT7, zN5, zN6, zN7, zc3, zc4, zc5, zc6, zc7, s_inRange, q', s_ckArg, s_ckElem, v21, h7, em, e2, s1, s2, s3, s4, j1, j2, e4]
end

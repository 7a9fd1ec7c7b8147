/-! THE COMPONENT's questions: voted, isDecisive, votes -/
section
variable {d b n x m K A z hn : Nat} {G : Hp} {s : Bs} {c w r : Rw} {ow : Nat → Nat} {hr : Nat → Rw} {sv : Option Rw}
theorem BP.pm {f : Rw} (hK : K ≤ 5) (hf : BP f K) : (∀ p, p < K → cl (f p) < K ∧ plc f (nI (cl (f p))) = p ∧ f p = nI (cl (f p))) ∧ ∀ k, k < K → plc f (nI k) < K ∧ cl (f (plc f (nI k))) = k := by
  refine ⟨fun p hp => ?_, fun k hk => ?_⟩
  · obtain ⟨k, hk, e, h⟩ := qp_of hK hf hp
    have e2 : cl (f p) = k := by rw [e]; exact nI_clamp (by omega)
    rw [e2]
    exact ⟨hk, (qp_K hK hf hk).1.symm.trans ((h k).mpr rfl), e⟩
  · have h1 := plc_ltK hK (hf.2 k hk)
    refine ⟨h1, ?_⟩
    rw [plc_lt (f := f) (k := nI k) (by omega)]
    exact nI_clamp (by omega)
set_option maxHeartbeats 4000000
set_option maxRecDepth 20000
theorem s_voted0' {t p : Int32} (hC : CW c w K A) (h : XW ow G x c w K A z b s m r hr hn sv) (hq : ¬ (irB p 0 (nI K - 1) = true ∧ irB t 0 2 = true)) : XP PP (d + 11) 73 0 [.ref x, .int t, .int p] [] G = thr (if irB p 0 (nI K - 1) = false then 23 else 24) G := by
  have sc2 := fun d => s_ckKind (d := d) (a := p) hC h
  obtain ⟨hh, hx, hxb, hBB, hOW, hz, hRJ, hXH⟩ := h; subst hz; obtain ⟨i0, ⟨hgb, hS, hoz, h17, hBI, hTY, hBQ⟩, hLB, hbx, hzx, hcx, htx, hZL⟩ := hBB; have hC5 := hC.K5; have hC8 := hC.A8; have hn40 := hRJ.n40; have tx : gT G x = 1 := hx.2.2.2.2.1; have tb : gT G b = 6 := i0.T (j := 0) (by omega); have rb : ∀ k, gR G b k = bR (gA G) b s 0 k := fun k => i0.R (j := 0) (by omega); have ib : ∀ k, gI G b k = s.1 0 k := fun k => i0.I (j := 0) (by omega); have tj : ∀ j, j < 21 → gT G (b + j) = bT j := fun j hj => i0.T hj; have nj : ∀ j, j < 21 → gN G (b + j) = bN j := fun j hj => (i0 j hj).2.1; have ij : ∀ j k, j < 21 → gI G (b + j) k = s.1 j k := fun j k hj => i0.I hj; have rj : ∀ j k, j < 21 → gR G (b + j) k = bR (gA G) b s j k := fun j k hj => i0.R hj; have hS' := hS; have sK := fun d => s_suClassesG (d := d) hS; have sA := fun d => s_suAskersG (d := d) hS; obtain ⟨zT, zR0, zR1, zR2, zR3, zR4, zR5, zR6, zT1, zT2, zT5, zT6, zT7, zN5, zN6, zN7, zK, zA, zW, zc3, zc4, zc5, zc6, zc7⟩ := hS; have zT' := zT
  by_cases q : irB p 0 (nI K - 1) = true
  · have q2 : irB t 0 2 = false := by simpa [q] using hq
    rw [if_neg (by simp [q])]
    simp [x73_0, x73_1, x73_2, x73_5, x73_6, x73_7, x73_8, x73_11, x73_14, x73_15, x73_18, x73_19, x73_22, x73_23, x73_24, x73_25, x73_26, x73_29, x73_32, x73_33, x73_36, x73_37, x73_38, rf_ref, rf_va, rf_null, c1_int, c1_ref, c1_UV, rvo_n, rvo_r, c1_null, c1_va, up_s, up_o, va_rf_some, va_rf_none, litA, litB, litM, nI_add, okZ_0, okZ_1, okZ_zb, zb_0, gB_add, inb_lit, cl_lit, Nat.lt_irrefl, ↓reduceIte, if_true, if_false, RP_v, RP_n, tx, sc2, q, q2, s_inRange, s_ckArg, RP_thr (show PP.2.2 73 11 24 = none from rfl)]
  · rw [if_pos (by simpa using q)]
    simp [x73_0, x73_1, x73_2, x73_5, x73_6, x73_7, x73_8, x73_11, x73_14, x73_15, x73_18, x73_19, x73_22, x73_23, x73_24, x73_25, x73_26, x73_29, x73_32, x73_33, x73_36, x73_37, x73_38, rf_ref, rf_va, rf_null, c1_int, c1_ref, c1_UV, rvo_n, rvo_r, c1_null, c1_va, up_s, up_o, va_rf_some, va_rf_none, litA, litB, litM, nI_add, okZ_0, okZ_1, okZ_zb, zb_0, gB_add, inb_lit, cl_lit, Nat.lt_irrefl, ↓reduceIte, if_true, if_false, RP_v, RP_n, tx, sc2, q, RP_thr (show PP.2.2 73 2 23 = none from rfl)]
theorem s_voted1 {t p : Int32} (hC : CW c w K A) (h22 : C22 G) (h : XW ow G x c w K A z b s m r hr hn sv) (hp : irB p 0 (nI K - 1) = true) (ht : irB t 0 2 = true) :
    ∃ G' s', XP PP (d + 11) 73 0 [.ref x, .int t, .int p] [] ((G)) = some (.inl (some (.int (tlF c w r (fun _ => 0) K A t K (cl p)))), G') ∧ XW ow G' x c w K A z b s' m r hr hn sv ∧ Fr (fun a => ow a = b ∨ a = x + 4) 0 0 G G' := by
  have sc2 := fun d => s_ckKind (d := d) (a := p) hC h
  have h' := h
  obtain ⟨hh, hx, hxb, hBB, hOW, hz, hRJ, hXH⟩ := h; subst hz; obtain ⟨i0, ⟨hgb, hS, hoz, h17, hBI, hTY, hBQ⟩, hLB, hbx, hzx, hcx, htx, hZL⟩ := hBB; have hC5 := hC.K5; have hC8 := hC.A8; have hn40 := hRJ.n40; have tx : gT G x = 1 := hx.2.2.2.2.1; have tb : gT G b = 6 := i0.T (j := 0) (by omega); have rb : ∀ k, gR G b k = bR (gA G) b s 0 k := fun k => i0.R (j := 0) (by omega); have ib : ∀ k, gI G b k = s.1 0 k := fun k => i0.I (j := 0) (by omega); have tj : ∀ j, j < 21 → gT G (b + j) = bT j := fun j hj => i0.T hj; have nj : ∀ j, j < 21 → gN G (b + j) = bN j := fun j hj => (i0 j hj).2.1; have ij : ∀ j k, j < 21 → gI G (b + j) k = s.1 j k := fun j k hj => i0.I hj; have rj : ∀ j k, j < 21 → gR G (b + j) k = bR (gA G) b s j k := fun j k hj => i0.R hj; have hS' := hS; have sK := fun d => s_suClassesG (d := d) hS; have sA := fun d => s_suAskersG (d := d) hS; obtain ⟨zT, zR0, zR1, zR2, zR3, zR4, zR5, zR6, zT1, zT2, zT5, zT6, zT7, zN5, zN6, zN7, zK, zA, zW, zc3, zc4, zc5, zc6, zc7⟩ := hS; have zT' := zT
  obtain ⟨p', hp', rfl⟩ := irB_nI hC.1.2.1 (by omega) hp
  obtain ⟨t', ht', rfl⟩ := irB_lt (n := 2) (by omega) ht
  have j0 : cl (nI p') = p' := nI_clamp (by omega)
  have j1 : inb (nI p') 5 = true := inb_nI (by omega) (by omega)
  have j2 : (nI p').toNatClampNeg = p' := nI_clamp (by omega)
  have j3 : inb (nI t') 3 = true := inb_nI (by omega) (by omega)
  have j4 : (nI t').toNatClampNeg = t' := nI_clamp (by omega)
  obtain ⟨ty, y1, y2, y3, y4⟩ := hx.2.2.2.2.2.2.2.2.2.2.2.2.2.2.2.2.2.2.2.2.2.2.2.2 t' (by omega)
  obtain ⟨G', s', g1, g2, g3, g4, g5⟩ := s_lay (d := d) (v := -1) (j := 4) hC h22 h' (Or.inl rfl) (show t' < 3 by omega) y3 (inB_f.mpr (Or.inl (by omega)))
  rw [hC.c19] at g5
  refine ⟨G', s', ?_, g2, g3⟩
  have hx' := g2.2.1
  obtain ⟨-, -, -, -, u1, u2, u3, u4, u5, u6, u7, u8, t1, t2, t3, t4, t5, t6, t7, n1, n3, n4, n5, -⟩ := hx
  obtain ⟨-, -, -, -, w1, w2, w3, w4, w5, w6, w7, w8, v1, v2, v3, v4, v5, v6, v7, m1, m3, m4, m5, -⟩ := hx'
  have e := g5 p' hp'
  rw [j0]
  have g0 : 110 ≤ gT G (x + 1) := by rw [t1]; decide
  simp [x73_0, x73_1, x73_2, x73_5, x73_6, x73_7, x73_8, x73_11, x73_14, x73_15, x73_18, x73_19, x73_22, x73_23, x73_24, x73_25, x73_26, x73_29, x73_32, x73_33, x73_36, x73_37, x73_38, bst_T0, bst_T, bst_N, bst_I0, bst_I, bst_R0, bst_R, bst_B, bst_X, bst_S, bst_A, bst_sI, bst_sI0, bst_sC, bst_sY, bst_sE, bI_s, bI_o, bI_2, bI_bI, bC_1, bY_1, bE_1, bT, bN, bR, rf_ref, rf_va, rf_null, c1_int, c1_ref, c1_UV, rvo_n, rvo_r, c1_null, c1_va, up_s, up_o, va_rf_some, va_rf_none, litA, litB, litM, nI_add, okZ_0, okZ_1, okZ_zb, zb_0, gB_add, inb_lit, cl_lit, Nat.lt_irrefl, ↓reduceIte, if_true, if_false, RP_v, RP_n, tx, hxb, tb, rb, ib, tj, nj, ij, rj, sK, sA, zT, zR0, zR1, zR2, zR3, zR4, zR5, zR6, zT1, zT2, zT5, zT6, zT7, zN5, zN6, zN7, zc3, zc4, zc5, zc6, zc7, sc2, hp, ht, s_inRange, s_ckArg, u2, u5, g0, n1, j3, j4, y1, g1, w1, w5, v4, m4, j1, j2, e]
theorem s_votes1 (hC : CW c w K A) (h : XW ow G x c w K A z b s m r hr hn sv) : XP PP (d + 2) 48 0 [.ref x, UV, UV] [] G = some (.inl (some (.int (voF c w r A))), G) := by
  have ss := fun d => s_setup (d := d) hC h
  have hV := fun d a ha => s_busCounts (d := d) (a := a) (BS.V h.2.2.2.1.2.1 hC h.2.2.2.2.2.2.1) ha
  rw [isB_bst h.2.2.2.1.1] at hV
  obtain ⟨hh, hx, hxb, hBB, hOW, hz, hRJ, hXH⟩ := h; subst hz; obtain ⟨i0, ⟨hgb, hS, hoz, h17, hBI, hTY, hBQ⟩, hLB, hbx, hzx, hcx, htx, hZL⟩ := hBB; have hC5 := hC.K5; have hC8 := hC.A8; have hn40 := hRJ.n40; have tx : gT G x = 1 := hx.2.2.2.2.1; have tb : gT G b = 6 := i0.T (j := 0) (by omega); have rb : ∀ k, gR G b k = bR (gA G) b s 0 k := fun k => i0.R (j := 0) (by omega); have ib : ∀ k, gI G b k = s.1 0 k := fun k => i0.I (j := 0) (by omega); have tj : ∀ j, j < 21 → gT G (b + j) = bT j := fun j hj => i0.T hj; have nj : ∀ j, j < 21 → gN G (b + j) = bN j := fun j hj => (i0 j hj).2.1; have ij : ∀ j k, j < 21 → gI G (b + j) k = s.1 j k := fun j k hj => i0.I hj; have rj : ∀ j k, j < 21 → gR G (b + j) k = bR (gA G) b s j k := fun j k hj => i0.R hj; have hS' := hS; have sK := fun d => s_suClassesG (d := d) hS; have sA := fun d => s_suAskersG (d := d) hS; obtain ⟨zT, zR0, zR1, zR2, zR3, zR4, zR5, zR6, zT1, zT2, zT5, zT6, zT7, zN5, zN6, zN7, zK, zA, zW, zc3, zc4, zc5, zc6, zc7⟩ := hS; have zT' := zT
  have hl : XP PP (d + 2) 48 4 [.ref x, .int 0, .int (nI 0)] [] G = some (.inl (some (.int (voF c w r A))), G) := by
    refine XP_for A (fun j => [.ref x, .int (voF c w r j), .int (nI j)]) (fun _ => G) ?_ ?_ 0 (Nat.zero_le _)
    · intro j hj
      have e1 : ¬ nI A ≤ nI j := nI_ge hj (by omega)
      have j1 : inb (nI j) 8 = true := inb_nI (by omega) (by omega)
      have j2 : (nI j).toNatClampNeg = j := nI_clamp (by omega)
      have hc : cnB c r j = decide (r (36 + j) < c 7) := by
        unfold cnB
        rw [hC.2.2, decide_eq_true (nI_ne1 (by omega)), Bool.true_and]
      have hv := fun d => hV d j hj
      have ew := zW j hj
      have es : voF c w r (j + 1) = voF c w r j + if cnB c r j = true then w j else 0 := rfl
      rw [es, hc]
      refine (x48_4).trans ?_
      by_cases y : r (36 + j) < c 7
      · have z1 : ¬ zb true = 0 := by decide
        simp [x48_5, x48_6, x48_9, x48_12, x48_15, x48_16, x48_19, x48_20, x48_23, x48_26, x48_27, x48_28, x48_31, x48_34, x48_35, x48_36, x48_37, x48_38, x48_41, x48_44, x48_45, bst_T0, bst_T, bst_N, bst_I0, bst_I, bst_R0, bst_R, bst_B, bst_X, bst_S, bst_A, bst_sI, bst_sI0, bst_sC, bst_sY, bst_sE, bI_s, bI_o, bI_2, bI_bI, bC_1, bY_1, bE_1, bT, bN, bR, rf_ref, rf_va, rf_null, c1_int, c1_ref, c1_UV, rvo_n, rvo_r, c1_null, c1_va, up_s, up_o, va_rf_some, va_rf_none, litA, litB, litM, nI_add, okZ_0, okZ_1, okZ_zb, zb_0, gB_add, inb_lit, cl_lit, Nat.lt_irrefl, ↓reduceIte, if_true, if_false, RP_v, RP_n, tx, hxb, tb, rb, ib, tj, nj, ij, rj, sK, sA, zT, zR0, zR1, zR2, zR3, zR4, zR5, zR6, zT1, zT2, zT5, zT6, zT7, zN5, zN6, zN7, zc3, zc4, zc5, zc6, zc7, ss, e1, j1, j2, hv, y, ew, z1, nI_1]
      · simp [x48_5, x48_6, x48_9, x48_12, x48_15, x48_16, x48_19, x48_20, x48_23, x48_26, x48_27, x48_28, x48_31, x48_34, x48_35, x48_36, x48_37, x48_38, x48_41, x48_44, x48_45, bst_T0, bst_T, bst_N, bst_I0, bst_I, bst_R0, bst_R, bst_B, bst_X, bst_S, bst_A, bst_sI, bst_sI0, bst_sC, bst_sY, bst_sE, bI_s, bI_o, bI_2, bI_bI, bC_1, bY_1, bE_1, bT, bN, bR, rf_ref, rf_va, rf_null, c1_int, c1_ref, c1_UV, rvo_n, rvo_r, c1_null, c1_va, up_s, up_o, va_rf_some, va_rf_none, litA, litB, litM, nI_add, okZ_0, okZ_1, okZ_zb, zb_0, gB_add, inb_lit, cl_lit, Nat.lt_irrefl, ↓reduceIte, if_true, if_false, RP_v, RP_n, tx, hxb, tb, rb, ib, tj, nj, ij, rj, sK, sA, zT, zR0, zR1, zR2, zR3, zR4, zR5, zR6, zT1, zT2, zT5, zT6, zT7, zN5, zN6, zN7, zc3, zc4, zc5, zc6, zc7, ss, e1, j1, j2, hv, y, nI_1]
    · have e1 : nI A ≤ nI A := Int32.le_refl _
      refine (x48_4).trans ?_
      simp [x48_5, x48_6, x48_9, x48_12, x48_15, x48_16, x48_19, x48_20, x48_23, x48_26, x48_27, x48_28, x48_31, x48_34, x48_35, x48_36, x48_37, x48_38, x48_41, x48_44, x48_45, bst_T0, bst_T, bst_N, bst_I0, bst_I, bst_R0, bst_R, bst_B, bst_X, bst_S, bst_A, bst_sI, bst_sI0, bst_sC, bst_sY, bst_sE, bI_s, bI_o, bI_2, bI_bI, bC_1, bY_1, bE_1, bT, bN, bR, rf_ref, rf_va, rf_null, c1_int, c1_ref, c1_UV, rvo_n, rvo_r, c1_null, c1_va, up_s, up_o, va_rf_some, va_rf_none, litA, litB, litM, nI_add, okZ_0, okZ_1, okZ_zb, zb_0, gB_add, inb_lit, cl_lit, Nat.lt_irrefl, ↓reduceIte, if_true, if_false, RP_v, RP_n, tx, hxb, tb, rb, ib, tj, nj, ij, rj, sK, sA, zT, zR0, zR1, zR2, zR3, zR4, zR5, zR6, zT1, zT2, zT5, zT6, zT7, zN5, zN6, zN7, zc3, zc4, zc5, zc6, zc7, ss, e1]
  have z1 : nI 0 = 0 := rfl
  rw [z1] at hl
  simp [x48_0, x48_1, x48_2, x48_3, bst_T0, bst_T, bst_N, bst_I0, bst_I, bst_R0, bst_R, bst_B, bst_X, bst_S, bst_A, bst_sI, bst_sI0, bst_sC, bst_sY, bst_sE, bI_s, bI_o, bI_2, bI_bI, bC_1, bY_1, bE_1, bT, bN, bR, rf_ref, rf_va, rf_null, c1_int, c1_ref, c1_UV, rvo_n, rvo_r, c1_null, c1_va, up_s, up_o, va_rf_some, va_rf_none, litA, litB, litM, nI_add, okZ_0, okZ_1, okZ_zb, zb_0, gB_add, inb_lit, cl_lit, Nat.lt_irrefl, ↓reduceIte, if_true, if_false, RP_v, RP_n, hl]
theorem s_isDec0 {a : Int32} (hC : CW c w K A) (h : XW ow G x c w K A z b s m r hr hn sv) (hq : ¬ irB a 0 (nI A - 1) = true) : XP PP (d + 11) 74 0 [.ref x, .int a, UV] [] G = thr 23 G := by
  have sc2 := fun d => s_ckAsker (d := d) (a := a) hC h
  obtain ⟨hh, hx, hxb, hBB, hOW, hz, hRJ, hXH⟩ := h; subst hz; obtain ⟨i0, ⟨hgb, hS, hoz, h17, hBI, hTY, hBQ⟩, hLB, hbx, hzx, hcx, htx, hZL⟩ := hBB; have hC5 := hC.K5; have hC8 := hC.A8; have hn40 := hRJ.n40; have tx : gT G x = 1 := hx.2.2.2.2.1; have tb : gT G b = 6 := i0.T (j := 0) (by omega); have rb : ∀ k, gR G b k = bR (gA G) b s 0 k := fun k => i0.R (j := 0) (by omega); have ib : ∀ k, gI G b k = s.1 0 k := fun k => i0.I (j := 0) (by omega); have tj : ∀ j, j < 21 → gT G (b + j) = bT j := fun j hj => i0.T hj; have nj : ∀ j, j < 21 → gN G (b + j) = bN j := fun j hj => (i0 j hj).2.1; have ij : ∀ j k, j < 21 → gI G (b + j) k = s.1 j k := fun j k hj => i0.I hj; have rj : ∀ j k, j < 21 → gR G (b + j) k = bR (gA G) b s j k := fun j k hj => i0.R hj; have hS' := hS; have sK := fun d => s_suClassesG (d := d) hS; have sA := fun d => s_suAskersG (d := d) hS; obtain ⟨zT, zR0, zR1, zR2, zR3, zR4, zR5, zR6, zT1, zT2, zT5, zT6, zT7, zN5, zN6, zN7, zK, zA, zW, zc3, zc4, zc5, zc6, zc7⟩ := hS; have zT' := zT
  simp [x74_0, x74_1, x74_2, x74_5, x74_6, x74_9, x74_10, x74_13, x74_16, x74_17, x74_18, x74_19, x74_22, x74_23, x74_26, x74_29, x74_30, x74_31, x74_34, x74_37, x74_38, x74_41, x74_42, x74_45, x74_48, x74_49, x74_50, x74_53, x74_56, x74_57, x74_58, x74_59, x74_60, x74_63, x74_66, x74_69, x74_70, x74_73, x74_74, x74_75, x74_76, x74_79, x74_80, x74_81, x74_84, x74_85, x74_86, x74_89, x74_92, x74_93, rf_ref, rf_va, rf_null, c1_int, c1_ref, c1_UV, rvo_n, rvo_r, c1_null, c1_va, up_s, up_o, va_rf_some, va_rf_none, litA, litB, litM, nI_add, okZ_0, okZ_1, okZ_zb, zb_0, gB_add, inb_lit, cl_lit, Nat.lt_irrefl, ↓reduceIte, if_true, if_false, RP_v, RP_n, tx, sc2, hq, RP_thr (show PP.2.2 74 2 23 = none from rfl)]
theorem cnB_9 {c r : Rw} {K A a : Nat} {w : Rw} (hC : CW c w K A) (ha : a < 2 ^ 31) : cnB c r a = decide (r (36 + a) < c 7) := by
  unfold cnB
  rw [hC.2.2, decide_eq_true (nI_ne1 ha), Bool.true_and]
theorem fst_ext {p q : Nat → Bool} {n : Nat} (h : ∀ k, k < n → p k = q k) : fst p n = fst q n := by
  cases e : fst p n with
  | none =>
    cases e2 : fst q n with
    | none => rfl
    | some j =>
      obtain ⟨a1, a2, a3⟩ := fst_spec e2
      have := fst_none e j a1
      rw [h j a1, a2] at this
      cases this
  | some i =>
    obtain ⟨b1, b2, b3⟩ := fst_spec e
    cases e2 : fst q n with
    | none =>
      have := fst_none e2 i b1
      rw [← h i b1, b2] at this
      cases this
    | some j =>
      obtain ⟨a1, a2, a3⟩ := fst_spec e2
      rcases Nat.lt_trichotomy i j with z | z | z
      · have := a3 i z
        rw [← h i b1, b2] at this; cases this
      · rw [z]
      · have := b3 j z
        rw [h j a1, a2] at this; cases this
theorem s_isDec1 {a : Nat} (hC : CW c w K A) (h22 : C22 G) (h : XW ow G x c w K A z b s m r hr hn sv) (ha : a < A) :
    ∃ G' s', XP PP (d + 11) 74 0 [.ref x, .int (nI a), UV] [] ((G)) = some (.inl (some (.int (zb (dcB c w r K A a)))), G') ∧ XW ow G' x c w K A z b s' m r hr hn sv ∧ Fr (fun a => ow a = b ∨ a = x + 4 ∨ a = x + 5) 0 0 G G' := by
  have sc2 := fun d => s_ckAsker (d := d) (a := nI a) hC h
  have hV := fun d => s_busCounts (d := d) (BS.V h.2.2.2.1.2.1 hC h.2.2.2.2.2.2.1) ha
  rw [isB_bst h.2.2.2.1.1] at hV
  have h' := h
  have hxb' := h.xb
  obtain ⟨hh, hx, hxb, hBB, hOW, hz, hRJ, hXH⟩ := h; subst hz; obtain ⟨i0, ⟨hgb, hS, hoz, h17, hBI, hTY, hBQ⟩, hLB, hbx, hzx, hcx, htx, hZL⟩ := hBB; have hC5 := hC.K5; have hC8 := hC.A8; have hn40 := hRJ.n40; have tx : gT G x = 1 := hx.2.2.2.2.1; have tb : gT G b = 6 := i0.T (j := 0) (by omega); have rb : ∀ k, gR G b k = bR (gA G) b s 0 k := fun k => i0.R (j := 0) (by omega); have ib : ∀ k, gI G b k = s.1 0 k := fun k => i0.I (j := 0) (by omega); have tj : ∀ j, j < 21 → gT G (b + j) = bT j := fun j hj => i0.T hj; have nj : ∀ j, j < 21 → gN G (b + j) = bN j := fun j hj => (i0 j hj).2.1; have ij : ∀ j k, j < 21 → gI G (b + j) k = s.1 j k := fun j k hj => i0.I hj; have rj : ∀ j k, j < 21 → gR G (b + j) k = bR (gA G) b s j k := fun j k hj => i0.R hj; have hS' := hS; have sK := fun d => s_suClassesG (d := d) hS; have sA := fun d => s_suAskersG (d := d) hS; obtain ⟨zT, zR0, zR1, zR2, zR3, zR4, zR5, zR6, zT1, zT2, zT5, zT6, zT7, zN5, zN6, zN7, zK, zA, zW, zc3, zc4, zc5, zc6, zc7⟩ := hS; have zT' := zT
  have q : irB (nI a) 0 (nI A - 1) = true := by rw [irB_inb hC.1.2.2.2.2.1 (by omega)]; exact inb_nI ha (by omega)
  unfold dcB
  rw [cnB_9 hC (show a < 2 ^ 31 by omega)]
  by_cases y : r (36 + a) < c 7
  · obtain ⟨hTo, t, ht, hrt, htT, htI⟩ := hTY
    obtain ⟨G1, s1, g1, g2, g3, g4, g5⟩ := s_lay (d := d) (v := -1) (j := 4) hC h22 h' (Or.inl rfl) ht htT hTo
    rw [hC.c19] at g5
    have c22' : C22 G1 := by
      obtain ⟨q1, q2⟩ := h22
      have hs := g3.s (a := gA G 22) (by omega) (fun z => by
        have o := hh.2 _ q1
        have := hx.2.1
        rcases z with z | z
        · have := hOW.1; omega
        · omega)
      exact ⟨by rw [g3.A, g3.B]; exact q1, by rw [g3.A]; exact hs.1.trans q2⟩
    have hty1 : gT G1 s1.2.2.1 = 2 + t := by
      have e : s1.2.2.1 = s.2.2.1 := by rw [g4]
      rw [e]
      have hs := g3.s (a := s.2.2.1) htx (fun z => by
        have o := hOW.2.2.2.2.1
        have ob := hOW.1
        rcases z with z | z
        · omega
        · have := hx.2.2.2.1 4 (by omega)
          rw [← z, o] at this
          have := hx.1
          omega)
      exact hs.1.trans htT
    obtain ⟨G2, s2, k1, k2, k3, k4, k5⟩ := s_lay (d := d) (v := nI a) (j := 5) hC c22' g2 (Or.inr rfl) ht hty1 (by rw [g4]; exact hTo)
    have l4 : ∀ p, p < K → gI G2 (x + 4) p = tlF c w r (fun _ => 0) K A (nI t) K p := fun p hp => by
      rw [← g5 p hp]
      refine (k3.s (a := x + 4) ?_ ?_).2.2.1 p
      · have := g2.2.1.2.2.1; omega
      · intro z
        have := hx.2.2.2.1 4 (by omega)
        rcases z with z | z
        · exact hxb' (this.symm.trans z)
        · omega
    refine ⟨G2, s2, ?_, k2, (g3.trans k3).mono (fun a' _ z => by
      rcases z with (z | z) | (z | z)
      · exact Or.inl z
      · exact Or.inr (Or.inl z)
      · exact Or.inl z
      · exact Or.inr (Or.inr z)) (by omega) (by omega)⟩
    have hx1 := g2.2.1
    have ss2 := fun d => s_setup (d := d) hC k2
    have sK2 := fun d => s_suClassesG (d := d) k2.2.2.2.1.2.1.2.1
    rw [k2.2.2.2.2.2.1] at sK2
    have tz2 : gT G2 s.2.1 = 5 := by rw [← k2.2.2.2.2.2.1]; exact k2.2.2.2.1.2.1.2.1.1
    have hb1 := g2.2.2.1
    have tb1 : gT G1 b = 6 := g2.2.2.2.1.1.T (j := 0) (by omega)
    have rb1 : gR G1 b 16 = some s1.2.2.1 := g2.2.2.2.1.1.R (j := 0) (by omega)
    obtain ⟨-, -, -, -, u1, u2, u3, u4, u5, u6, u7, u8, t1, t2, t3, t4, t5, t6, t7, n1, n3, n4, n5, -⟩ := hx
    obtain ⟨-, -, -, -, a1, a2, a3, a4, a5, a6, a7, a8, a9⟩ := hx1
    obtain ⟨-, -, -, -, w1, w2, w3, w4, w5, w6, w7, w8, v1, v2, v3, v4, v5, v6, v7, m1, m3, m4, m5, -⟩ := k2.2.1
    have hl : XP PP (d + 11) 74 58 [.ref x, .int (nI a), .int (nI 0)] [] G2 = some (.inl (some (.int (zb (fst (fun p => decide (¬ tlF (va_up c 19 (nI a)) w r (fun _ => 0) K A (r 1) K p = tlF c w r (fun _ => 0) K A (r 1) K p)) K).isSome))), G2) := by
      rw [hrt]
      refine (XP_fst K (fun p => decide (¬ tlF (va_up c 19 (nI a)) w r (fun _ => 0) K A (nI t) K p = tlF c w r (fun _ => 0) K A (nI t) K p)) (fun j => [.ref x, .int (nI a), .int (nI j)]) (fun _ => G2) (X := some (.inl (some (.int 0)), G2)) (fun j => some (.inl (some (.int 1)), G2)) ?_ ?_ ?_).trans ?_
      · intro j hj hp
        have hp' := of_decide_eq_true hp
        have e1 : ¬ nI K ≤ nI j := nI_ge hj (by omega)
        have j1 : inb (nI j) 5 = true := inb_nI (by omega) (by omega)
        have j2 : (nI j).toNatClampNeg = j := nI_clamp (by omega)
        have hp2 : ¬ tlF c w r (fun _ => 0) K A (nI t) K j = tlF (va_up c 19 (nI a)) w r (fun _ => 0) K A (nI t) K j := fun z => hp' z.symm
        refine (x74_58).trans ?_
        simp [x74_59, x74_60, x74_63, x74_66, x74_69, x74_70, x74_73, x74_74, x74_75, x74_76, x74_79, x74_80, x74_81, x74_84, x74_85, x74_86, x74_89, x74_92, x74_93, rf_ref, rf_va, rf_null, c1_int, c1_ref, c1_UV, rvo_n, rvo_r, c1_null, c1_va, up_s, up_o, va_rf_some, va_rf_none, litA, litB, litM, nI_add, okZ_0, okZ_1, okZ_zb, zb_0, gB_add, inb_lit, cl_lit, Nat.lt_irrefl, ↓reduceIte, if_true, if_false, RP_v, RP_n, w1, w5, w6, v4, v5, m4, m5, ss2, sK2, tz2, e1, j1, j2, l4 j hj, k5 j hj, hp2]
      · intro j hj hp
        have hp' := of_decide_eq_false hp
        have e1 : ¬ nI K ≤ nI j := nI_ge hj (by omega)
        have j1 : inb (nI j) 5 = true := inb_nI (by omega) (by omega)
        have j2 : (nI j).toNatClampNeg = j := nI_clamp (by omega)
        have hp2 : tlF (va_up c 19 (nI a)) w r (fun _ => 0) K A (nI t) K j = tlF c w r (fun _ => 0) K A (nI t) K j := by
          by_cases e : tlF (va_up c 19 (nI a)) w r (fun _ => 0) K A (nI t) K j = tlF c w r (fun _ => 0) K A (nI t) K j
          · exact e
          · exact absurd e hp'
        refine (x74_58).trans ?_
        simp [x74_59, x74_60, x74_63, x74_66, x74_69, x74_70, x74_73, x74_74, x74_75, x74_76, x74_79, x74_80, x74_81, x74_84, x74_85, x74_86, x74_89, x74_92, x74_93, rf_ref, rf_va, rf_null, c1_int, c1_ref, c1_UV, rvo_n, rvo_r, c1_null, c1_va, up_s, up_o, va_rf_some, va_rf_none, litA, litB, litM, nI_add, okZ_0, okZ_1, okZ_zb, zb_0, gB_add, inb_lit, cl_lit, Nat.lt_irrefl, ↓reduceIte, if_true, if_false, RP_v, RP_n, w1, w5, w6, v4, v5, m4, m5, ss2, sK2, tz2, e1, j1, j2, l4 j hj, k5 j hj, hp2, nI_1]
      · have e1 : nI K ≤ nI K := Int32.le_refl _
        refine (x74_58).trans ?_
        simp [x74_59, x74_60, x74_63, x74_66, x74_69, x74_70, x74_73, x74_74, x74_75, x74_76, x74_79, x74_80, x74_81, x74_84, x74_85, x74_86, x74_89, x74_92, x74_93, rf_ref, rf_va, rf_null, c1_int, c1_ref, c1_UV, rvo_n, rvo_r, c1_null, c1_va, up_s, up_o, va_rf_some, va_rf_none, litA, litB, litM, nI_add, okZ_0, okZ_1, okZ_zb, zb_0, gB_add, inb_lit, cl_lit, Nat.lt_irrefl, ↓reduceIte, if_true, if_false, RP_v, RP_n, w1, ss2, sK2, tz2, e1]
      · cases fst (fun p => decide (¬ tlF (va_up c 19 (nI a)) w r (fun _ => 0) K A (nI t) K p = tlF c w r (fun _ => 0) K A (nI t) K p)) K <;> rfl
    have z1 : nI 0 = 0 := rfl
    rw [z1] at hl
    have zt : ¬ zb true = 0 := by decide
    rw [decide_eq_true y, Bool.true_and]
    rw [← hl]
    simp [x74_0, x74_1, x74_2, x74_5, x74_6, x74_9, x74_10, x74_13, x74_16, x74_17, x74_18, x74_19, x74_22, x74_23, x74_26, x74_29, x74_30, x74_31, x74_34, x74_37, x74_38, x74_41, x74_42, x74_45, x74_48, x74_49, x74_50, x74_53, x74_56, x74_57, bst_T0, bst_T, bst_N, bst_I0, bst_I, bst_R0, bst_R, bst_B, bst_X, bst_S, bst_A, bst_sI, bst_sI0, bst_sC, bst_sY, bst_sE, bI_s, bI_o, bI_2, bI_bI, bC_1, bY_1, bE_1, bT, bN, bR, rf_ref, rf_va, rf_null, c1_int, c1_ref, c1_UV, rvo_n, rvo_r, c1_null, c1_va, up_s, up_o, va_rf_some, va_rf_none, litA, litB, litM, nI_add, okZ_0, okZ_1, okZ_zb, zb_0, gB_add, inb_lit, cl_lit, Nat.lt_irrefl, ↓reduceIte, if_true, if_false, RP_v, RP_n, tx, hxb, tb, rb, ib, tj, nj, ij, rj, sK, sA, zT, zR0, zR1, zR2, zR3, zR4, zR5, zR6, zT1, zT2, zT5, zT6, zT7, zN5, zN6, zN7, zc3, zc4, zc5, zc6, zc7, sc2, q, hV, y, zt, u5, g1, a1, hb1, tb1, rb1, a6, k1]
  · rw [decide_eq_false y, Bool.false_and]
    refine ⟨G, s, ?_, h', Fr.refl⟩
    simp [x74_0, x74_1, x74_2, x74_5, x74_6, x74_9, x74_10, x74_13, x74_16, x74_17, x74_18, x74_19, x74_22, x74_23, x74_26, x74_29, x74_30, x74_31, x74_34, x74_37, x74_38, x74_41, x74_42, x74_45, x74_48, x74_49, x74_50, x74_53, x74_56, x74_57, x74_58, x74_59, x74_60, x74_63, x74_66, x74_69, x74_70, x74_73, x74_74, x74_75, x74_76, x74_79, x74_80, x74_81, x74_84, x74_85, x74_86, x74_89, x74_92, x74_93, bst_T0, bst_T, bst_N, bst_I0, bst_I, bst_R0, bst_R, bst_B, bst_X, bst_S, bst_A, bst_sI, bst_sI0, bst_sC, bst_sY, bst_sE, bI_s, bI_o, bI_2, bI_bI, bC_1, bY_1, bE_1, bT, bN, bR, rf_ref, rf_va, rf_null, c1_int, c1_ref, c1_UV, rvo_n, rvo_r, c1_null, c1_va, up_s, up_o, va_rf_some, va_rf_none, litA, litB, litM, nI_add, okZ_0, okZ_1, okZ_zb, zb_0, gB_add, inb_lit, cl_lit, Nat.lt_irrefl, ↓reduceIte, if_true, if_false, RP_v, RP_n, tx, hxb, tb, rb, ib, tj, nj, ij, rj, sK, sA, zT, zR0, zR1, zR2, zR3, zR4, zR5, zR6, zT1, zT2, zT5, zT6, zT7, zN5, zN6, zN7, zc3, zc4, zc5, zc6, zc7, sc2, q, hV, y, zb_false]
end

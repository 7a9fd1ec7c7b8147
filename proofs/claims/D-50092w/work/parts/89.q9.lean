/-! THE COMPONENT's questions: distance, differences -/
theorem prS_lt {b b' : Nat → Nat → Bool} {K : Nat} (h : ∀ p q, p < q → q < K → b p q = b' p q) : prS b K K = prS b' K K := by
  rw [prS_sn, prS_sn]
  refine sn_congr fun p hp => sn_congr fun q hq => ?_
  by_cases z : p < q
  · rw [h p q z hq]
  · rw [decide_eq_false z]; rfl
/-- classes that two orders have in different order -/
def opB (f g : Rw) (a b : Nat) : Bool := (decide (plc f (nI a) < plc f (nI b)) && decide (plc g (nI b) < plc g (nI a))) || (decide (plc f (nI b) < plc f (nI a)) && decide (plc g (nI a) < plc g (nI b)))
theorem opB_sym {f g : Rw} (a b : Nat) : opB f g a b = opB f g b a := by unfold opB; rw [Bool.or_comm]
theorem opB_fg {f g : Rw} (a b : Nat) : opB f g a b = opB g f a b := by
  unfold opB
  rw [Bool.or_comm, Bool.and_comm, Bool.and_comm (decide (plc f (nI a) < plc f (nI b)))]
theorem dfB_op {f g : Rw} {K : Nat} (hK : K ≤ 5) (hf : BP f K) (hg : BP g K) : prS (dfB f g) K K = prS (opB f g) K K := by
  obtain ⟨h1, h2⟩ := hf.pm hK
  rw [← prS_bij (B := opB f g) (s := fun p => cl (f p)) (t := fun k => plc f (nI k)) (fun p hp => ⟨(h1 p hp).1, (h1 p hp).2.1⟩) h2 opB_sym]
  refine prS_lt fun p q hpq hq => ?_
  have a1 := h1 p (by omega)
  have a2 := h1 q hq
  unfold dfB opB
  rw [a1.2.1, a2.2.1, decide_eq_true hpq, decide_eq_false (show ¬ q < p by omega), Bool.true_and, Bool.false_and, Bool.or_false, ← a1.2.2, ← a2.2.2]
section
variable {d b n x m K A z hn y : Nat} {G : Hp} {s : Bs} {c w r : Rw} {ow : Nat → Nat} {hr : Nat → Rw} {sv : Option Rw}
set_option maxHeartbeats 4000000
set_option maxRecDepth 20000
theorem s_placeIn {k : Int32} (hT : gT G y = 100) (hN : 5 ≤ gN G y) (hN2 : gN G y < 2 ^ 31) (h : ∃ p, p < 5 ∧ gI G y p = k) : XP PP d 76 0 [.ref y, .int k, UV] [] G = some (.inl (some (.int (nI (plc (gI G y) k)))), G) := by
  obtain ⟨h1, h2, h3⟩ := plc_spec h
  generalize plc (gI G y) k = n at h1 h2 h3
  have hl : XP PP d 76 2 [.ref y, .int k, .int (nI 0)] [] G = some (.inl (some (.int (nI n))), G) := by
    refine XP_for n (fun j => [.ref y, .int k, .int (nI j)]) (fun _ => G) ?_ ?_ 0 (Nat.zero_le _)
    · intro j hj
      have j1 : inb (nI j) (gN G y) = true := inb_nI (by omega) hN2
      have j2 : (nI j).toNatClampNeg = j := nI_clamp (by omega)
      have e := h3 j hj
      refine (x76_2 rfl).trans ?_
      simp [x76_3, x76_4, x76_5, x76_6, x76_9, x76_12, x76_15, x76_16, rf_ref, rf_va, rf_null, c1_int, c1_ref, c1_UV, rvo_n, rvo_r, c1_null, c1_va, up_s, up_o, va_rf_some, va_rf_none, litA, litB, litM, nI_add, okZ_0, okZ_1, okZ_zb, zb_0, gB_add, inb_lit, cl_lit, Nat.lt_irrefl, ↓reduceIte, if_true, if_false, RP_v, RP_n, hT, j1, j2, e, nI_1]
    · have j1 : inb (nI n) (gN G y) = true := inb_nI (by omega) hN2
      have j2 : (nI n).toNatClampNeg = n := nI_clamp (by omega)
      refine (x76_2 rfl).trans ?_
      simp [x76_3, x76_4, x76_5, x76_6, x76_9, x76_12, x76_15, x76_16, rf_ref, rf_va, rf_null, c1_int, c1_ref, c1_UV, rvo_n, rvo_r, c1_null, c1_va, up_s, up_o, va_rf_some, va_rf_none, litA, litB, litM, nI_add, okZ_0, okZ_1, okZ_zb, zb_0, gB_add, inb_lit, cl_lit, Nat.lt_irrefl, ↓reduceIte, if_true, if_false, RP_v, RP_n, hT, j1, j2, h2]
  have z1 : nI 0 = 0 := rfl
  rw [z1] at hl
  simp [x76_0, x76_1, rf_ref, rf_va, rf_null, c1_int, c1_ref, c1_UV, rvo_n, rvo_r, c1_null, c1_va, up_s, up_o, va_rf_some, va_rf_none, litA, litB, litM, nI_add, okZ_0, okZ_1, okZ_zb, zb_0, gB_add, inb_lit, cl_lit, Nat.lt_irrefl, ↓reduceIte, if_true, if_false, RP_v, RP_n, hl]
theorem s_turned {a : Nat} (hC : CW c w K A) (h : XW ow G x c w K A z b s m r hr hn sv) (ha : a < A) (hT : gT G y = 100) (hN : 5 ≤ gN G y) (hN2 : gN G y < 2 ^ 31) (hf : BP (gI G y) K) : XP PP (d + 2) 78 0 [.ref x, .int (nI a), .ref y, UV, UV, UV, UV] [] G = some (.inl (some (.int (nI (prS (paB r (gI G y) a) K K)))), G) := by
  have ss := fun d => s_setup (d := d) hC h
  obtain ⟨hh, hx, hxb, hBB, hOW, hz, hRJ, hXH⟩ := h; subst hz; obtain ⟨i0, ⟨hgb, hS, hoz, h17, hBI, hTY, hBQ⟩, hLB, hbx, hzx, hcx, htx, hZL⟩ := hBB; have hC5 := hC.K5; have hC8 := hC.A8; have hn40 := hRJ.n40; have tx : gT G x = 1 := hx.2.2.2.2.1; have tb : gT G b = 6 := i0.T (j := 0) (by omega); have rb : ∀ k, gR G b k = bR (gA G) b s 0 k := fun k => i0.R (j := 0) (by omega); have ib : ∀ k, gI G b k = s.1 0 k := fun k => i0.I (j := 0) (by omega); have tj : ∀ j, j < 21 → gT G (b + j) = bT j := fun j hj => i0.T hj; have nj : ∀ j, j < 21 → gN G (b + j) = bN j := fun j hj => (i0 j hj).2.1; have ij : ∀ j k, j < 21 → gI G (b + j) k = s.1 j k := fun j k hj => i0.I hj; have rj : ∀ j k, j < 21 → gR G (b + j) k = bR (gA G) b s j k := fun j k hj => i0.R hj; have hS' := hS; have sK := fun d => s_suClassesG (d := d) hS; have sA := fun d => s_suAskersG (d := d) hS; obtain ⟨zT, zR0, zR1, zR2, zR3, zR4, zR5, zR6, zT1, zT2, zT5, zT6, zT7, zN5, zN6, zN7, zK, zA, zW, zc3, zc4, zc5, zc6, zc7⟩ := hS; have zT' := zT
  have hB : BP (bal r a) K := hRJ.2.2.1 a ha
  have key : prS (fun p q => decide (plc (gI G y) (bal r a q) < plc (gI G y) (bal r a p))) K K = prS (paB r (gI G y) a) K K := by
    have e1 := dfB_op hC5 hB hf
    have e2 := dfB_op hC5 hf hB
    have e3 : prS (opB (bal r a) (gI G y)) K K = prS (opB (gI G y) (bal r a)) K K := prS_lt fun p q _ _ => opB_fg p q
    exact e1.trans (e3.trans e2.symm)
  rw [← key]
  generalize hF : gI G y = F at hf key ⊢
  obtain ⟨B, hBd⟩ : ∃ B : Nat → Nat → Bool, B = fun p q => decide (plc F (bal r a q) < plc F (bal r a p)) := ⟨_, rfl⟩
  rw [← hBd]
  have hon : ∀ p, p < K → ∃ q, q < 5 ∧ F q = bal r a p := fun p hp => by
    obtain ⟨k, hk, e⟩ := vp_in_of (hB.1 p hp) (by omega)
    obtain ⟨q, hq, e2⟩ := hf.2 k hk
    exact ⟨q, by omega, by rw [e2, e]⟩
  have e5a : (5 : Int32) * nI a = nI (5 * a) := pk_mul 5 a
  have hin : ∀ p, p < K → ∀ n0, XP PP (d + 2) 78 28 [.ref x, .int (nI a), .ref y, .int (nI (5 * a)), .int (nI n0), .int (nI p), .int (nI (p + 1))] [] G = XP PP (d + 2) 78 10 [.ref x, .int (nI a), .ref y, .int (nI (5 * a)), .int (nI (n0 + cnt (fun j => B p (p + 1 + j)) (K - 1 - p))), .int (nI (p + 1)), .int (nI K)] [] G := by
    intro p hp n0
    refine XP_for (K - 1 - p) (fun j => [.ref x, .int (nI a), .ref y, .int (nI (5 * a)), .int (nI (n0 + cnt (fun j => B p (p + 1 + j)) j)), .int (nI p), .int (nI (p + 1 + j))]) (fun _ => G) ?_ ?_ 0 (Nat.zero_le _)
    · intro j hj
      have e1 : ¬ nI K ≤ nI (p + 1 + j) := nI_ge (by omega) (by omega)
      have i1 : inb (nI (5 * a + p)) 40 = true := inb_nI (by omega) (by omega)
      have i2 : (nI (5 * a + p)).toNatClampNeg = 5 * a + p := nI_clamp (by omega)
      have i3 : inb (nI (5 * a + (p + 1 + j))) 40 = true := inb_nI (by omega) (by omega)
      have i4 : (nI (5 * a + (p + 1 + j))).toNatClampNeg = 5 * a + (p + 1 + j) := nI_clamp (by omega)
      have b1 : s.1 7 (5 * a + p) = bal r a p := (hBI.ba ha hp hC5).trans (by unfold bal; congr 1; omega)
      have b2 : s.1 7 (5 * a + (p + 1 + j)) = bal r a (p + 1 + j) := (hBI.ba ha (show p + 1 + j < K by omega) hC5).trans (by unfold bal; congr 1; omega)
      have s1 := fun d => s_placeIn (d := d) (G := G) (y := y) (k := bal r a p) hT hN hN2 (by rw [hF]; exact hon p hp)
      have s2 := fun d => s_placeIn (d := d) (G := G) (y := y) (k := bal r a (p + 1 + j)) hT hN hN2 (by rw [hF]; exact hon _ (by omega))
      rw [hF] at s1 s2
      have z1 := (plc_spec (hon p hp)).1
      have z2 := (plc_spec (hon (p + 1 + j) (by omega))).1
      have e5 : (nI (plc F (bal r a p)) ≤ nI (plc F (bal r a (p + 1 + j)))) = _ := nI_leN (by omega) (by omega)
      refine (x78_28).trans ?_
      by_cases q : plc F (bal r a (p + 1 + j)) < plc F (bal r a p)
      · simp [x78_30, x78_31, x78_34, x78_37, x78_40, x78_41, x78_42, x78_45, x78_48, x78_49, x78_51, x78_52, x78_53, x78_56, x78_57, x78_58, x78_61, x78_64, x78_65, x78_67, x78_68, x78_69, x78_72, x78_75, x78_78, x78_81, x78_84, x78_87, bst_T0, bst_T, bst_N, bst_I0, bst_I, bst_R0, bst_R, bst_B, bst_X, bst_S, bst_A, bst_sI, bst_sI0, bst_sC, bst_sY, bst_sE, bI_s, bI_o, bI_2, bI_bI, bC_1, bY_1, bE_1, bT, bN, bR, rf_ref, rf_va, rf_null, c1_int, c1_ref, c1_UV, rvo_n, rvo_r, c1_null, c1_va, up_s, up_o, va_rf_some, va_rf_none, litA, litB, litM, nI_add, okZ_0, okZ_1, okZ_zb, zb_0, gB_add, inb_lit, cl_lit, Nat.lt_irrefl, ↓reduceIte, if_true, if_false, RP_v, RP_n, tx, hxb, tb, rb, ib, tj, nj, ij, rj, sK, sA, zT, zR0, zR1, zR2, zR3, zR4, zR5, zR6, zT1, zT2, zT5, zT6, zT7, zN5, zN6, zN7, zc3, zc4, zc5, zc6, zc7, ss, e1, i1, i2, i3, i4, b1, b2, s1, s2, e5, q, Nat.not_le.mpr q, cnt, hBd, nI_1]
        rfl
      · simp [x78_30, x78_31, x78_34, x78_37, x78_40, x78_41, x78_42, x78_45, x78_48, x78_49, x78_51, x78_52, x78_53, x78_56, x78_57, x78_58, x78_61, x78_64, x78_65, x78_67, x78_68, x78_69, x78_72, x78_75, x78_78, x78_81, x78_84, x78_87, bst_T0, bst_T, bst_N, bst_I0, bst_I, bst_R0, bst_R, bst_B, bst_X, bst_S, bst_A, bst_sI, bst_sI0, bst_sC, bst_sY, bst_sE, bI_s, bI_o, bI_2, bI_bI, bC_1, bY_1, bE_1, bT, bN, bR, rf_ref, rf_va, rf_null, c1_int, c1_ref, c1_UV, rvo_n, rvo_r, c1_null, c1_va, up_s, up_o, va_rf_some, va_rf_none, litA, litB, litM, nI_add, okZ_0, okZ_1, okZ_zb, zb_0, gB_add, inb_lit, cl_lit, Nat.lt_irrefl, ↓reduceIte, if_true, if_false, RP_v, RP_n, tx, hxb, tb, rb, ib, tj, nj, ij, rj, sK, sA, zT, zR0, zR1, zR2, zR3, zR4, zR5, zR6, zT1, zT2, zT5, zT6, zT7, zN5, zN6, zN7, zc3, zc4, zc5, zc6, zc7, ss, e1, i1, i2, i3, i4, b1, b2, s1, s2, e5, q, Nat.not_lt.mp q, cnt, hBd, nI_1]
        rfl
    · have e2 : p + 1 + (K - 1 - p) = K := by omega
      have e1 : nI K ≤ nI K := Int32.le_refl _
      refine (x78_28).trans ?_
      simp [x78_30, x78_31, x78_34, x78_37, x78_40, x78_41, x78_42, x78_45, x78_48, x78_49, x78_51, x78_52, x78_53, x78_56, x78_57, x78_58, x78_61, x78_64, x78_65, x78_67, x78_68, x78_69, x78_72, x78_75, x78_78, x78_81, x78_84, x78_87, bst_T0, bst_T, bst_N, bst_I0, bst_I, bst_R0, bst_R, bst_B, bst_X, bst_S, bst_A, bst_sI, bst_sI0, bst_sC, bst_sY, bst_sE, bI_s, bI_o, bI_2, bI_bI, bC_1, bY_1, bE_1, bT, bN, bR, rf_ref, rf_va, rf_null, c1_int, c1_ref, c1_UV, rvo_n, rvo_r, c1_null, c1_va, up_s, up_o, va_rf_some, va_rf_none, litA, litB, litM, nI_add, okZ_0, okZ_1, okZ_zb, zb_0, gB_add, inb_lit, cl_lit, Nat.lt_irrefl, ↓reduceIte, if_true, if_false, RP_v, RP_n, tx, hxb, tb, rb, ib, tj, nj, ij, rj, sK, sA, zT, zR0, zR1, zR2, zR3, zR4, zR5, zR6, zT1, zT2, zT5, zT6, zT7, zN5, zN6, zN7, zc3, zc4, zc5, zc6, zc7, ss, e1, e2, nI_1]
  have hl := XP_forX (P := PP) (d := d + 2) (y := 78) (pc := 10) K (fun e : Value × Nat => c1 e.1 = true) (fun p e => [.ref x, .int (nI a), .ref y, .int (nI (5 * a)), .int (nI (prS B K p)), .int (nI p), e.1]) (fun _ => G) (X := some (.inl (some (.int (nI (prS B K K)))), G))
    (by
      intro p hp e he
      have e1 : ¬ nI K ≤ nI p := nI_ge hp (by omega)
      refine ⟨(.int (nI K), 0), rfl, ?_⟩
      refine (x78_10).trans ?_
      simp [x78_12, x78_13, x78_16, x78_19, x78_22, x78_24, x78_25, x78_26, bst_T0, bst_T, bst_N, bst_I0, bst_I, bst_R0, bst_R, bst_B, bst_X, bst_S, bst_A, bst_sI, bst_sI0, bst_sC, bst_sY, bst_sE, bI_s, bI_o, bI_2, bI_bI, bC_1, bY_1, bE_1, bT, bN, bR, rf_ref, rf_va, rf_null, c1_int, c1_ref, c1_UV, rvo_n, rvo_r, c1_null, c1_va, up_s, up_o, va_rf_some, va_rf_none, litA, litB, litM, nI_add, okZ_0, okZ_1, okZ_zb, zb_0, gB_add, inb_lit, cl_lit, Nat.lt_irrefl, ↓reduceIte, if_true, if_false, RP_v, RP_n, tx, hxb, tb, rb, ib, tj, nj, ij, rj, sK, sA, zT, zR0, zR1, zR2, zR3, zR4, zR5, zR6, zT1, zT2, zT5, zT6, zT7, zN5, zN6, zN7, zc3, zc4, zc5, zc6, zc7, ss, e1, he, nI_1, hin p hp, prS])
    (by
      intro e he
      have e1 : nI K ≤ nI K := Int32.le_refl _
      refine (x78_10).trans ?_
      simp [x78_12, x78_13, x78_16, x78_19, x78_22, x78_24, x78_25, x78_26, x78_90, x78_92, bst_T0, bst_T, bst_N, bst_I0, bst_I, bst_R0, bst_R, bst_B, bst_X, bst_S, bst_A, bst_sI, bst_sI0, bst_sC, bst_sY, bst_sE, bI_s, bI_o, bI_2, bI_bI, bC_1, bY_1, bE_1, bT, bN, bR, rf_ref, rf_va, rf_null, c1_int, c1_ref, c1_UV, rvo_n, rvo_r, c1_null, c1_va, up_s, up_o, va_rf_some, va_rf_none, litA, litB, litM, nI_add, okZ_0, okZ_1, okZ_zb, zb_0, gB_add, inb_lit, cl_lit, Nat.lt_irrefl, ↓reduceIte, if_true, if_false, RP_v, RP_n, tx, hxb, tb, rb, ib, tj, nj, ij, rj, sK, sA, zT, zR0, zR1, zR2, zR3, zR4, zR5, zR6, zT1, zT2, zT5, zT6, zT7, zN5, zN6, zN7, zc3, zc4, zc5, zc6, zc7, ss, e1]) 0 (Nat.zero_le _) (UV, 0) rfl
  have z1 : nI 0 = 0 := rfl
  have z2 : prS B K 0 = 0 := rfl
  rw [z2, z1] at hl
  simp [x78_0, x78_1, x78_2, x78_3, x78_4, x78_5, x78_7, x78_8, rf_ref, rf_va, rf_null, c1_int, c1_ref, c1_UV, rvo_n, rvo_r, c1_null, c1_va, up_s, up_o, va_rf_some, va_rf_none, litA, litB, litM, nI_add, okZ_0, okZ_1, okZ_zb, zb_0, gB_add, inb_lit, cl_lit, Nat.lt_irrefl, ↓reduceIte, if_true, if_false, RP_v, RP_n, e5a, hl]
theorem s_distance1 {a : Int32} (hC : CW c w K A) (h : XW ow G x c w K A z b s m r hr hn sv) : XP PP (d + 3) 77 0 [.ref x, .int a] [] G = if irB a 0 (nI A - 1) = true then some (.inl (some (.int (nI (prS (paB r (ordR r) (cl a)) K K)))), G) else thr 23 G := by
  have sc2 := fun d => s_ckAsker (d := d) (a := a) hC h
  have h' := h
  obtain ⟨hh, hx, hxb, hBB, hOW, hz, hRJ, hXH⟩ := h; subst hz; obtain ⟨i0, ⟨hgb, hS, hoz, h17, hBI, hTY, hBQ⟩, hLB, hbx, hzx, hcx, htx, hZL⟩ := hBB; have hC5 := hC.K5; have hC8 := hC.A8; have hn40 := hRJ.n40; have tx : gT G x = 1 := hx.2.2.2.2.1; have tb : gT G b = 6 := i0.T (j := 0) (by omega); have rb : ∀ k, gR G b k = bR (gA G) b s 0 k := fun k => i0.R (j := 0) (by omega); have ib : ∀ k, gI G b k = s.1 0 k := fun k => i0.I (j := 0) (by omega); have tj : ∀ j, j < 21 → gT G (b + j) = bT j := fun j hj => i0.T hj; have nj : ∀ j, j < 21 → gN G (b + j) = bN j := fun j hj => (i0 j hj).2.1; have ij : ∀ j k, j < 21 → gI G (b + j) k = s.1 j k := fun j k hj => i0.I hj; have rj : ∀ j k, j < 21 → gR G (b + j) k = bR (gA G) b s j k := fun j k hj => i0.R hj; have hS' := hS; have sK := fun d => s_suClassesG (d := d) hS; have sA := fun d => s_suAskersG (d := d) hS; obtain ⟨zT, zR0, zR1, zR2, zR3, zR4, zR5, zR6, zT1, zT2, zT5, zT6, zT7, zN5, zN6, zN7, zK, zA, zW, zc3, zc4, zc5, zc6, zc7⟩ := hS; have zT' := zT
  by_cases q : irB a 0 (nI A - 1) = true
  · rw [if_pos q]
    obtain ⟨a', ha, rfl⟩ := irB_nI hC.1.2.2.2.2.1 (by omega) q
    have j0 : cl (nI a') = a' := nI_clamp (by omega)
    have T8 : gT G (b + 8) = 100 := tj 8 (by omega)
    have N8 : gN G (b + 8) = 5 := nj 8 (by omega)
    have f8 : ∀ p, p < K → gI G (b + 8) p = ordR r p := fun p hp => (ij 8 p (by omega)).trans (hBI.o8 hp)
    have hP : BP (gI G (b + 8)) K := ⟨fun p hp => by rw [f8 p hp]; exact hRJ.2.1.1 p hp, fun k hk => by
      obtain ⟨p, hp, e⟩ := hRJ.2.1.2 k hk
      exact ⟨p, hp, by rw [f8 p hp]; exact e⟩⟩
    have st := fun d => s_turned (d := d) (y := b + 8) hC h' ha T8 (by omega) (by omega) hP
    have e : prS (paB r (gI G (b + 8)) a') K K = prS (paB r (ordR r) a') K K := prS_lt fun p q hpq hq => by
      unfold paB
      rw [f8 p (by omega), f8 q hq]
    rw [e] at st
    rw [j0]
    simp [x77_0, x77_1, x77_2, x77_5, x77_6, x77_7, x77_8, x77_11, x77_14, x77_17, bst_T0, bst_T, bst_N, bst_I0, bst_I, bst_R0, bst_R, bst_B, bst_X, bst_S, bst_A, bst_sI, bst_sI0, bst_sC, bst_sY, bst_sE, bI_s, bI_o, bI_2, bI_bI, bC_1, bY_1, bE_1, bT, bN, bR, rf_ref, rf_va, rf_null, c1_int, c1_ref, c1_UV, rvo_n, rvo_r, c1_null, c1_va, up_s, up_o, va_rf_some, va_rf_none, litA, litB, litM, nI_add, okZ_0, okZ_1, okZ_zb, zb_0, gB_add, inb_lit, cl_lit, Nat.lt_irrefl, ↓reduceIte, if_true, if_false, RP_v, RP_n, tx, hxb, tb, rb, ib, tj, nj, ij, rj, sK, sA, zT, zR0, zR1, zR2, zR3, zR4, zR5, zR6, zT1, zT2, zT5, zT6, zT7, zN5, zN6, zN7, zc3, zc4, zc5, zc6, zc7, sc2, q, st]
  · rw [if_neg q]
    simp [x77_0, x77_1, x77_2, x77_5, x77_6, x77_7, x77_8, x77_11, x77_14, x77_17, rf_ref, rf_va, rf_null, c1_int, c1_ref, c1_UV, rvo_n, rvo_r, c1_null, c1_va, up_s, up_o, va_rf_some, va_rf_none, litA, litB, litM, nI_add, okZ_0, okZ_1, okZ_zb, zb_0, gB_add, inb_lit, cl_lit, Nat.lt_irrefl, ↓reduceIte, if_true, if_false, RP_v, RP_n, tx, sc2, q, RP_thr (show PP.2.2 77 2 23 = none from rfl)]
end

/-! THE COMPONENT's questions: kind -/
section
variable {d b n x m K A z hn : Nat} {G : Hp} {s : Bs} {c w r : Rw} {ow : Nat → Nat} {hr : Nat → Rw} {sv : Option Rw}
set_option maxHeartbeats 4000000
set_option maxRecDepth 20000
theorem s_plOrder1 {k : Nat} (hC : CW c w K A) (h : XW ow G x c w K A z b s m r hr hn sv) (hk : k < K) : XP PP d 61 0 [.ref x, .int (nI k), UV] [] G = some (.inl (some (.int (nI (plc (ordR r) (nI k))))), G) := by
  obtain ⟨hh, hx, hxb, hBB, hOW, hz, hRJ, hXH⟩ := h; subst hz; obtain ⟨i0, ⟨hgb, hS, hoz, h17, hBI, hTY, hBQ⟩, hLB, hbx, hzx, hcx, htx, hZL⟩ := hBB; have hC5 := hC.K5; have hC8 := hC.A8; have hn40 := hRJ.n40; have tx : gT G x = 1 := hx.2.2.2.2.1; have tb : gT G b = 6 := i0.T (j := 0) (by omega); have rb : ∀ k, gR G b k = bR (gA G) b s 0 k := fun k => i0.R (j := 0) (by omega); have ib : ∀ k, gI G b k = s.1 0 k := fun k => i0.I (j := 0) (by omega); have tj : ∀ j, j < 21 → gT G (b + j) = bT j := fun j hj => i0.T hj; have nj : ∀ j, j < 21 → gN G (b + j) = bN j := fun j hj => (i0 j hj).2.1; have ij : ∀ j k, j < 21 → gI G (b + j) k = s.1 j k := fun j k hj => i0.I hj; have rj : ∀ j k, j < 21 → gR G (b + j) k = bR (gA G) b s j k := fun j k hj => i0.R hj; have hS' := hS; have sK := fun d => s_suClassesG (d := d) hS; have sA := fun d => s_suAskersG (d := d) hS; obtain ⟨zT, zR0, zR1, zR2, zR3, zR4, zR5, zR6, zT1, zT2, zT5, zT6, zT7, zN5, zN6, zN7, zK, zA, zW, zc3, zc4, zc5, zc6, zc7⟩ := hS; have zT' := zT
  obtain ⟨p0, hp0, ep0⟩ := hRJ.2.1.2 k hk
  obtain ⟨g1, g2, g3⟩ := plc_spec (f := ordR r) (k := nI k) ⟨p0, by omega, ep0⟩
  have g4 : plc (ordR r) (nI k) ≤ p0 := Nat.le_of_not_lt fun z => g3 p0 z ep0
  generalize plc (ordR r) (nI k) = n at g1 g2 g3 g4
  unfold ordR at g2 g3
  have hl : XP PP d 61 2 [.ref x, .int (nI k), .int (nI 0)] [] G = some (.inl (some (.int (nI n))), G) := by
    refine XP_for n (fun j => [.ref x, .int (nI k), .int (nI j)]) (fun _ => G) ?_ ?_ 0 (Nat.zero_le _)
    · intro j hj
      have j1 : inb (nI j) 5 = true := inb_nI (by omega) (by omega)
      have j2 : (nI j).toNatClampNeg = j := nI_clamp (by omega)
      have e1 := hBI.o8 (p := j) (by omega)
      have e2 := g3 j hj
      refine Eq.trans (by first | exact x61_2 | exact x61_2 (rf_ref _) | exact x61_2 rfl) ?_
      simp [x61_0, x61_1, x61_3, x61_6, x61_9, x61_10, x61_11, x61_12, x61_15, x61_18, x61_21, x61_22, bst_T0, bst_T, bst_N, bst_I0, bst_I, bst_R0, bst_R, bst_B, bst_X, bst_S, bst_A, bst_sI, bst_sI0, bst_sC, bst_sY, bst_sE, bI_s, bI_o, bI_2, bI_bI, bC_1, bY_1, bE_1, bT, bN, bR, rf_ref, rf_va, rf_null, c1_int, c1_ref, c1_UV, rvo_n, rvo_r, c1_null, c1_va, up_s, up_o, va_rf_some, va_rf_none, litA, litB, litM, nI_add, okZ_0, okZ_1, okZ_zb, zb_0, gB_add, inb_lit, cl_lit, Nat.lt_irrefl, ↓reduceIte, if_true, if_false, RP_v, RP_n, tx, hxb, tb, rb, ib, tj, nj, ij, rj, sK, sA, zT, zR0, zR1, zR2, zR3, zR4, zR5, zR6, zT1, zT2, zT5, zT6, zT7, zN5, zN6, zN7, zc3, zc4, zc5, zc6, zc7, j1, j2, e1, e2, nI_1]
    · have j1 : inb (nI n) 5 = true := inb_nI (by omega) (by omega)
      have j2 : (nI n).toNatClampNeg = n := nI_clamp (by omega)
      have e1 := hBI.o8 (p := n) (by omega)
      refine Eq.trans (by first | exact x61_2 | exact x61_2 (rf_ref _) | exact x61_2 rfl) ?_
      simp [x61_0, x61_1, x61_3, x61_6, x61_9, x61_10, x61_11, x61_12, x61_15, x61_18, x61_21, x61_22, bst_T0, bst_T, bst_N, bst_I0, bst_I, bst_R0, bst_R, bst_B, bst_X, bst_S, bst_A, bst_sI, bst_sI0, bst_sC, bst_sY, bst_sE, bI_s, bI_o, bI_2, bI_bI, bC_1, bY_1, bE_1, bT, bN, bR, rf_ref, rf_va, rf_null, c1_int, c1_ref, c1_UV, rvo_n, rvo_r, c1_null, c1_va, up_s, up_o, va_rf_some, va_rf_none, litA, litB, litM, nI_add, okZ_0, okZ_1, okZ_zb, zb_0, gB_add, inb_lit, cl_lit, Nat.lt_irrefl, ↓reduceIte, if_true, if_false, RP_v, RP_n, tx, hxb, tb, rb, ib, tj, nj, ij, rj, sK, sA, zT, zR0, zR1, zR2, zR3, zR4, zR5, zR6, zT1, zT2, zT5, zT6, zT7, zN5, zN6, zN7, zc3, zc4, zc5, zc6, zc7, j1, j2, e1, g2]
  have z1 : nI 0 = 0 := rfl
  rw [z1] at hl
  simp [x61_0, x61_1, bst_T0, bst_T, bst_N, bst_I0, bst_I, bst_R0, bst_R, bst_B, bst_X, bst_S, bst_A, bst_sI, bst_sI0, bst_sC, bst_sY, bst_sE, bI_s, bI_o, bI_2, bI_bI, bC_1, bY_1, bE_1, bT, bN, bR, rf_ref, rf_va, rf_null, c1_int, c1_ref, c1_UV, rvo_n, rvo_r, c1_null, c1_va, up_s, up_o, va_rf_some, va_rf_none, litA, litB, litM, nI_add, okZ_0, okZ_1, okZ_zb, zb_0, gB_add, inb_lit, cl_lit, Nat.lt_irrefl, ↓reduceIte, if_true, if_false, RP_v, RP_n, hl]
theorem s_kindN {a v : Int32} (hC : CW c w K A) (h : XW ow G x c w K A z b s m r hr hn sv) (hq : ¬ (irB a 0 (nI K - 1) = true ∧ irB v 0 5 = true)) : XP PP (d + 4) 59 0 [.ref x, .int a, .int v] [] G = thr 23 G := by
  have sc := fun d => s_ckKind (d := d) (a := a) hC h
  obtain ⟨hh, hx, hxb, hBB, hOW, hz, hRJ, hXH⟩ := h; subst hz; obtain ⟨i0, ⟨hgb, hS, hoz, h17, hBI, hTY, hBQ⟩, hLB, hbx, hzx, hcx, htx, hZL⟩ := hBB; have hC5 := hC.K5; have hC8 := hC.A8; have hn40 := hRJ.n40; have tx : gT G x = 1 := hx.2.2.2.2.1; have tb : gT G b = 6 := i0.T (j := 0) (by omega); have rb : ∀ k, gR G b k = bR (gA G) b s 0 k := fun k => i0.R (j := 0) (by omega); have ib : ∀ k, gI G b k = s.1 0 k := fun k => i0.I (j := 0) (by omega); have tj : ∀ j, j < 21 → gT G (b + j) = bT j := fun j hj => i0.T hj; have nj : ∀ j, j < 21 → gN G (b + j) = bN j := fun j hj => (i0 j hj).2.1; have ij : ∀ j k, j < 21 → gI G (b + j) k = s.1 j k := fun j k hj => i0.I hj; have rj : ∀ j k, j < 21 → gR G (b + j) k = bR (gA G) b s j k := fun j k hj => i0.R hj; have hS' := hS; have sK := fun d => s_suClassesG (d := d) hS; have sA := fun d => s_suAskersG (d := d) hS; obtain ⟨zT, zR0, zR1, zR2, zR3, zR4, zR5, zR6, zT1, zT2, zT5, zT6, zT7, zN5, zN6, zN7, zK, zA, zW, zc3, zc4, zc5, zc6, zc7⟩ := hS; have zT' := zT
  by_cases q : irB a 0 (nI K - 1) = true
  · have q2 : ¬ irB v 0 5 = true := fun z => hq ⟨q, z⟩
    have hne : ∀ k, k ≤ 5 → ¬ v = nI k := fun k hk e => q2 (by
      subst e
      unfold irB
      rw [show (0 : Int32) = nI 0 from rfl, show (5 : Int32) = nI 5 from rfl, decide_eq_true ((nI_leI (by omega) (by omega)).mpr (Nat.zero_le _)), decide_eq_true ((nI_leI (by omega) (by omega)).mpr hk)]; rfl)
    have e0 : ¬ v = 0 := hne 0 (by omega)
    have e1 : ¬ v = 1 := hne 1 (by omega)
    have e2 : ¬ v = 2 := hne 2 (by omega)
    have e3 : ¬ v = 3 := hne 3 (by omega)
    have e4 : ¬ v = 4 := hne 4 (by omega)
    have e5 : ¬ v = 5 := hne 5 (by omega)
    simp [x59_0, x59_1, x59_2, x59_5, x59_6, x59_44, x59_45, x59_48, x59_51, x59_52, x59_53, x59_54, x59_55, x59_56, x59_57, x59_60, x59_61, x59_62, x59_65, x59_68, x59_69, x59_70, x59_71, x59_72, x59_73, x59_76, x59_77, x59_78, x59_81, x59_82, x59_85, x59_88, x59_89, x59_92, x59_93, x59_94, x59_95, x59_98, x59_99, x59_102n, x59_102r, x59_105, x59_106, x59_109, x59_110, x59_113, x59_114, x59_117, x59_120, x59_121, x59_124, x59_128, rf_ref, rf_va, rf_null, c1_int, c1_ref, c1_UV, rvo_n, rvo_r, c1_null, c1_va, up_s, up_o, va_rf_some, va_rf_none, litA, litB, litM, nI_add, okZ_0, okZ_1, okZ_zb, zb_0, gB_add, inb_lit, cl_lit, Nat.lt_irrefl, ↓reduceIte, if_true, if_false, RP_v, RP_n, tx, sc, q, e0, e1, e2, e3, e4, e5, thr_59]
  · simp [x59_0, x59_1, x59_2, x59_5, x59_6, x59_44, x59_45, x59_48, x59_51, x59_52, x59_53, x59_54, x59_55, x59_56, x59_57, x59_60, x59_61, x59_62, x59_65, x59_68, x59_69, x59_70, x59_71, x59_72, x59_73, x59_76, x59_77, x59_78, x59_81, x59_82, x59_85, x59_88, x59_89, x59_92, x59_93, x59_94, x59_95, x59_98, x59_99, x59_102n, x59_102r, x59_105, x59_106, x59_109, x59_110, x59_113, x59_114, x59_117, x59_120, x59_121, x59_124, x59_128, rf_ref, rf_va, rf_null, c1_int, c1_ref, c1_UV, rvo_n, rvo_r, c1_null, c1_va, up_s, up_o, va_rf_some, va_rf_none, litA, litB, litM, nI_add, okZ_0, okZ_1, okZ_zb, zb_0, gB_add, inb_lit, cl_lit, Nat.lt_irrefl, ↓reduceIte, if_true, if_false, RP_v, RP_n, tx, sc, q, RP_thr (show PP.2.2 59 2 23 = none from rfl)]
/-- the first of a class, as the twin tells it -/
theorem s_first1 {k : Nat} (hC : CW c w K A) (hL : CLM G) (h : XW ow G x c w K A z b s m r hr hn sv) (hk : k < K) :
    (fst (lnB r (cl (r 9)) (nI k) 0) (cl (r 9)) = none ∧ XP PP (d + 3) 128 0 [.ref b, .int (nI k), UV, UV, UV, UV, UV, UV] [] (G) = some (.inl (some (.null)), G)) ∨
    ∃ i q, fst (lnB r (cl (r 9)) (nI k) 0) (cl (r 9)) = some i ∧ gT G q = 11 ∧ gI G q 0 = r (118 + 6 * i) ∧ XP PP (d + 3) 128 0 [.ref b, .int (nI k), UV, UV, UV, UV, UV, UV] [] (G) = some (.inl (some (.ref q)), G) := by
  obtain ⟨hh, hx, hxb, hBB, hOW, hz, hRJ, hXH⟩ := h
  obtain ⟨i0, ⟨hgb, hS, hoz, h17, hBI, hTY, hBQ⟩, hLB, hbx, hzx, hcx, htx, hZL⟩ := hBB
  obtain ⟨ix, hwl, hix, -⟩ := hBQ.ix hRJ
  have hN : gN G s.2.2.2.2 < 2 ^ 31 := by have := hLB.1.2.1; omega
  have hX : BX G b s r m ix := ⟨hBQ.1, hBQ.2.1, hBQ.2.2.1, hN, hBQ.2.2.2.2.1, hBQ.2.2.2.2.2.1, hwl⟩
  have sF := s_first (d := d) (k := k) hgb hL hC.K5 hC.A8 hBI hk hRJ.2.2.2.1 hX (fun j hj => (hRJ.2.2.2.2.2.1.2.2.1 (ix j) (hix.1 j hj)).1)
  rw [isB_bst i0] at sF
  have et := ft_twin hRJ hC.K5 hC.A8 hk hix
  cases e : ftF r ix (nI k) m with
  | none =>
    rw [e] at sF et
    exact Or.inl ⟨et, sF⟩
  | some j =>
    rw [e] at sF et
    obtain ⟨q, w1, w2, w3⟩ := hwl j (ftF_lt _ _ e)
    have sF' : frV G s.2.2.2.2 (some j) = .ref q := by show va_rf (gR G s.2.2.2.2 j) = _; rw [w1]; rfl
    rw [sF'] at sF
    exact Or.inr ⟨ix j, q, et, w3.1, w3.2.1, sF⟩
theorem s_kindY {k : Nat} {v : Int32} (hC : CW c w K A) (hL : CLM G) (h : XW ow G x c w K A z b s m r hr hn sv) (hk : k < K) (hv : irB v 0 5 = true) : ∃ G', XP PP (d + 4) 59 0 [.ref x, .int (nI k), .int v] [] ((G)) = some (.inl (some (.int (kdF r (cl (r 9)) k v))), G') ∧ Fr (fun _ => False) 1 4 G G' := by
  have sc := fun d => s_ckKind (d := d) (a := nI k) hC h
  have sw := s_waitingOf1 (d := d + 1) (a := -1) (kd := nI k) hC h
  have sp := fun d => s_plOrder1 (d := d) hC h hk
  have sf := s_first1 (d := d) hC hL h hk
  have sv' := fun d => s_isVetoedC (d := d) (G := G) (b := b) (s := s) (k := nI k)
  rw [isB_bst h.2.2.2.1.1] at sv'
  obtain ⟨hh, hx, hxb, hBB, hOW, hz, hRJ, hXH⟩ := h; subst hz; obtain ⟨i0, ⟨hgb, hS, hoz, h17, hBI, hTY, hBQ⟩, hLB, hbx, hzx, hcx, htx, hZL⟩ := hBB; have hC5 := hC.K5; have hC8 := hC.A8; have hn40 := hRJ.n40; have tx : gT G x = 1 := hx.2.2.2.2.1; have tb : gT G b = 6 := i0.T (j := 0) (by omega); have rb : ∀ k, gR G b k = bR (gA G) b s 0 k := fun k => i0.R (j := 0) (by omega); have ib : ∀ k, gI G b k = s.1 0 k := fun k => i0.I (j := 0) (by omega); have tj : ∀ j, j < 21 → gT G (b + j) = bT j := fun j hj => i0.T hj; have nj : ∀ j, j < 21 → gN G (b + j) = bN j := fun j hj => (i0 j hj).2.1; have ij : ∀ j k, j < 21 → gI G (b + j) k = s.1 j k := fun j k hj => i0.I hj; have rj : ∀ j k, j < 21 → gR G (b + j) k = bR (gA G) b s j k := fun j k hj => i0.R hj; have hS' := hS; have sK := fun d => s_suClassesG (d := d) hS; have sA := fun d => s_suAskersG (d := d) hS; obtain ⟨zT, zR0, zR1, zR2, zR3, zR4, zR5, zR6, zT1, zT2, zT5, zT6, zT7, zN5, zN6, zN7, zK, zA, zW, zc3, zc4, zc5, zc6, zc7⟩ := hS; have zT' := zT
  have h1K := hC.1.2.1
  have q : irB (nI k) 0 (nI K - 1) = true := by rw [irB_inb h1K (by omega)]; exact inb_nI hk (by omega)
  have j1 : inb (nI k) 5 = true := inb_nI (by omega) (by omega)
  have j2 : (nI k).toNatClampNeg = k := nI_clamp (by omega)
  have l9 := hBI.m9 (p := k) hk
  have l10 := hBI.k10 (p := k) (by omega)
  have v24 : s.1 0 24 = r 4 := hBI 0 24 4 rfl
  unfold kdF
  by_cases q0 : v = 0
  · subst q0; exact ⟨G, by simp [x59_0, x59_1, x59_2, x59_5, x59_6, x59_44, x59_45, x59_48, x59_51, x59_52, x59_53, x59_54, x59_55, x59_56, x59_57, x59_60, x59_61, x59_62, x59_65, x59_68, x59_69, x59_70, x59_71, x59_72, x59_73, x59_76, x59_77, x59_78, x59_81, x59_82, x59_85, x59_88, x59_89, x59_92, x59_93, x59_94, x59_95, x59_98, x59_99, x59_102n, x59_102r, x59_105, x59_106, x59_109, x59_110, x59_113, x59_114, x59_117, x59_120, x59_121, x59_124, x59_128, bst_T0, bst_T, bst_N, bst_I0, bst_I, bst_R0, bst_R, bst_B, bst_X, bst_S, bst_A, bst_sI, bst_sI0, bst_sC, bst_sY, bst_sE, bI_s, bI_o, bI_2, bI_bI, bC_1, bY_1, bE_1, bT, bN, bR, rf_ref, rf_va, rf_null, c1_int, c1_ref, c1_UV, rvo_n, rvo_r, c1_null, c1_va, up_s, up_o, va_rf_some, va_rf_none, litA, litB, litM, nI_add, okZ_0, okZ_1, okZ_zb, zb_0, gB_add, inb_lit, cl_lit, Nat.lt_irrefl, ↓reduceIte, if_true, if_false, RP_v, RP_n, tx, hxb, tb, rb, ib, tj, nj, ij, rj, sK, sA, zT, zR0, zR1, zR2, zR3, zR4, zR5, zR6, zT1, zT2, zT5, zT6, zT7, zN5, zN6, zN7, zc3, zc4, zc5, zc6, zc7, sc, q, j1, j2, l9], Fr.refl.mono (fun _ _ z => z) (by omega) (by omega)⟩
  by_cases q1 : v = 1
  · subst q1
    obtain ⟨G', g1, g2⟩ := sw
    refine ⟨G', ?_, g2⟩
    have hcn : cnt (fun i => wo2 r (-1) (nI k) i && wtB r i) (cl (r 9)) = cnt (ilB r (nI k)) (cl (r 9)) := cnt_congr fun i hi => by
      have hk2 : ¬ r (118 + 6 * i + 1) = -1 := by
        obtain ⟨k', hk', e⟩ := vp_in_of (hRJ.2.2.2.2.2.1.2.2.1 i hi).1 (by omega)
        rw [e]; exact nI_ne1 (by omega)
      unfold wo2 ilB
      rw [decide_eq_false (show ¬ (-1 : Int32) = r (118 + 6 * i + 1) from fun e => hk2 e.symm), Bool.false_or]
      congr 1
      exact decide_eq_decide.mpr eq_comm
    rw [hcn] at g1
    simp [x59_0, x59_1, x59_2, x59_5, x59_6, x59_44, x59_45, x59_48, x59_51, x59_52, x59_53, x59_54, x59_55, x59_56, x59_57, x59_60, x59_61, x59_62, x59_65, x59_68, x59_69, x59_70, x59_71, x59_72, x59_73, x59_76, x59_77, x59_78, x59_81, x59_82, x59_85, x59_88, x59_89, x59_92, x59_93, x59_94, x59_95, x59_98, x59_99, x59_102n, x59_102r, x59_105, x59_106, x59_109, x59_110, x59_113, x59_114, x59_117, x59_120, x59_121, x59_124, x59_128, bst_T0, bst_T, bst_N, bst_I0, bst_I, bst_R0, bst_R, bst_B, bst_X, bst_S, bst_A, bst_sI, bst_sI0, bst_sC, bst_sY, bst_sE, bI_s, bI_o, bI_2, bI_bI, bC_1, bY_1, bE_1, bT, bN, bR, rf_ref, rf_va, rf_null, c1_int, c1_ref, c1_UV, rvo_n, rvo_r, c1_null, c1_va, up_s, up_o, va_rf_some, va_rf_none, litA, litB, litM, nI_add, okZ_0, okZ_1, okZ_zb, zb_0, gB_add, inb_lit, cl_lit, Nat.lt_irrefl, ↓reduceIte, if_true, if_false, RP_v, RP_n, tx, hxb, tb, rb, ib, tj, nj, ij, rj, sK, sA, zT, zR0, zR1, zR2, zR3, zR4, zR5, zR6, zT1, zT2, zT5, zT6, zT7, zN5, zN6, zN7, zc3, zc4, zc5, zc6, zc7, sc, q, g1]
  by_cases q2 : v = 2
  · subst q2; exact ⟨G, by simp [x59_0, x59_1, x59_2, x59_5, x59_6, x59_44, x59_45, x59_48, x59_51, x59_52, x59_53, x59_54, x59_55, x59_56, x59_57, x59_60, x59_61, x59_62, x59_65, x59_68, x59_69, x59_70, x59_71, x59_72, x59_73, x59_76, x59_77, x59_78, x59_81, x59_82, x59_85, x59_88, x59_89, x59_92, x59_93, x59_94, x59_95, x59_98, x59_99, x59_102n, x59_102r, x59_105, x59_106, x59_109, x59_110, x59_113, x59_114, x59_117, x59_120, x59_121, x59_124, x59_128, bst_T0, bst_T, bst_N, bst_I0, bst_I, bst_R0, bst_R, bst_B, bst_X, bst_S, bst_A, bst_sI, bst_sI0, bst_sC, bst_sY, bst_sE, bI_s, bI_o, bI_2, bI_bI, bC_1, bY_1, bE_1, bT, bN, bR, rf_ref, rf_va, rf_null, c1_int, c1_ref, c1_UV, rvo_n, rvo_r, c1_null, c1_va, up_s, up_o, va_rf_some, va_rf_none, litA, litB, litM, nI_add, okZ_0, okZ_1, okZ_zb, zb_0, gB_add, inb_lit, cl_lit, Nat.lt_irrefl, ↓reduceIte, if_true, if_false, RP_v, RP_n, tx, hxb, tb, rb, ib, tj, nj, ij, rj, sK, sA, zT, zR0, zR1, zR2, zR3, zR4, zR5, zR6, zT1, zT2, zT5, zT6, zT7, zN5, zN6, zN7, zc3, zc4, zc5, zc6, zc7, sc, q, j1, j2, l10], Fr.refl.mono (fun _ _ z => z) (by omega) (by omega)⟩
  by_cases q3 : v = 3
  · subst q3; exact ⟨G, by simp [x59_0, x59_1, x59_2, x59_5, x59_6, x59_44, x59_45, x59_48, x59_51, x59_52, x59_53, x59_54, x59_55, x59_56, x59_57, x59_60, x59_61, x59_62, x59_65, x59_68, x59_69, x59_70, x59_71, x59_72, x59_73, x59_76, x59_77, x59_78, x59_81, x59_82, x59_85, x59_88, x59_89, x59_92, x59_93, x59_94, x59_95, x59_98, x59_99, x59_102n, x59_102r, x59_105, x59_106, x59_109, x59_110, x59_113, x59_114, x59_117, x59_120, x59_121, x59_124, x59_128, bst_T0, bst_T, bst_N, bst_I0, bst_I, bst_R0, bst_R, bst_B, bst_X, bst_S, bst_A, bst_sI, bst_sI0, bst_sC, bst_sY, bst_sE, bI_s, bI_o, bI_2, bI_bI, bC_1, bY_1, bE_1, bT, bN, bR, rf_ref, rf_va, rf_null, c1_int, c1_ref, c1_UV, rvo_n, rvo_r, c1_null, c1_va, up_s, up_o, va_rf_some, va_rf_none, litA, litB, litM, nI_add, okZ_0, okZ_1, okZ_zb, zb_0, gB_add, inb_lit, cl_lit, Nat.lt_irrefl, ↓reduceIte, if_true, if_false, RP_v, RP_n, tx, hxb, tb, rb, ib, tj, nj, ij, rj, sK, sA, zT, zR0, zR1, zR2, zR3, zR4, zR5, zR6, zT1, zT2, zT5, zT6, zT7, zN5, zN6, zN7, zc3, zc4, zc5, zc6, zc7, sc, q, sp], Fr.refl.mono (fun _ _ z => z) (by omega) (by omega)⟩
  by_cases q4 : v = 4
  · subst q4
    refine ⟨G, ?_, Fr.refl.mono (fun _ _ z => z) (by omega) (by omega)⟩
    rw [v24] at sv'
    by_cases y : hasB (r 4) (nI k) = true
    · simp [x59_0, x59_1, x59_2, x59_5, x59_6, x59_44, x59_45, x59_48, x59_51, x59_52, x59_53, x59_54, x59_55, x59_56, x59_57, x59_60, x59_61, x59_62, x59_65, x59_68, x59_69, x59_70, x59_71, x59_72, x59_73, x59_76, x59_77, x59_78, x59_81, x59_82, x59_85, x59_88, x59_89, x59_92, x59_93, x59_94, x59_95, x59_98, x59_99, x59_102n, x59_102r, x59_105, x59_106, x59_109, x59_110, x59_113, x59_114, x59_117, x59_120, x59_121, x59_124, x59_128, bst_T0, bst_T, bst_N, bst_I0, bst_I, bst_R0, bst_R, bst_B, bst_X, bst_S, bst_A, bst_sI, bst_sI0, bst_sC, bst_sY, bst_sE, bI_s, bI_o, bI_2, bI_bI, bC_1, bY_1, bE_1, bT, bN, bR, rf_ref, rf_va, rf_null, c1_int, c1_ref, c1_UV, rvo_n, rvo_r, c1_null, c1_va, up_s, up_o, va_rf_some, va_rf_none, litA, litB, litM, nI_add, okZ_0, okZ_1, okZ_zb, zb_0, gB_add, inb_lit, cl_lit, Nat.lt_irrefl, ↓reduceIte, if_true, if_false, RP_v, RP_n, tx, hxb, tb, rb, ib, tj, nj, ij, rj, sK, sA, zT, zR0, zR1, zR2, zR3, zR4, zR5, zR6, zT1, zT2, zT5, zT6, zT7, zN5, zN6, zN7, zc3, zc4, zc5, zc6, zc7, sc, q, sv', y, zb]
    · simp [x59_0, x59_1, x59_2, x59_5, x59_6, x59_44, x59_45, x59_48, x59_51, x59_52, x59_53, x59_54, x59_55, x59_56, x59_57, x59_60, x59_61, x59_62, x59_65, x59_68, x59_69, x59_70, x59_71, x59_72, x59_73, x59_76, x59_77, x59_78, x59_81, x59_82, x59_85, x59_88, x59_89, x59_92, x59_93, x59_94, x59_95, x59_98, x59_99, x59_102n, x59_102r, x59_105, x59_106, x59_109, x59_110, x59_113, x59_114, x59_117, x59_120, x59_121, x59_124, x59_128, bst_T0, bst_T, bst_N, bst_I0, bst_I, bst_R0, bst_R, bst_B, bst_X, bst_S, bst_A, bst_sI, bst_sI0, bst_sC, bst_sY, bst_sE, bI_s, bI_o, bI_2, bI_bI, bC_1, bY_1, bE_1, bT, bN, bR, rf_ref, rf_va, rf_null, c1_int, c1_ref, c1_UV, rvo_n, rvo_r, c1_null, c1_va, up_s, up_o, va_rf_some, va_rf_none, litA, litB, litM, nI_add, okZ_0, okZ_1, okZ_zb, zb_0, gB_add, inb_lit, cl_lit, Nat.lt_irrefl, ↓reduceIte, if_true, if_false, RP_v, RP_n, tx, hxb, tb, rb, ib, tj, nj, ij, rj, sK, sA, zT, zR0, zR1, zR2, zR3, zR4, zR5, zR6, zT1, zT2, zT5, zT6, zT7, zN5, zN6, zN7, zc3, zc4, zc5, zc6, zc7, sc, q, sv', y, zb]
  have q5 : v = 5 := by
    obtain ⟨k, hk, rfl⟩ := irB_lt (n := 5) (by omega) hv
    rcases (by omega : k = 0 ∨ k = 1 ∨ k = 2 ∨ k = 3 ∨ k = 4 ∨ k = 5) with rfl | rfl | rfl | rfl | rfl | rfl
    all_goals first | rfl | contradiction
  subst q5
  refine ⟨G, ?_, Fr.refl.mono (fun _ _ z => z) (by omega) (by omega)⟩
  rcases sf with ⟨g1, g2⟩ | ⟨i, q', g1, g2, g3, g4⟩
  · rw [g1]
    simp [x59_0, x59_1, x59_2, x59_5, x59_6, x59_44, x59_45, x59_48, x59_51, x59_52, x59_53, x59_54, x59_55, x59_56, x59_57, x59_60, x59_61, x59_62, x59_65, x59_68, x59_69, x59_70, x59_71, x59_72, x59_73, x59_76, x59_77, x59_78, x59_81, x59_82, x59_85, x59_88, x59_89, x59_92, x59_93, x59_94, x59_95, x59_98, x59_99, x59_102n, x59_102r, x59_105, x59_106, x59_109, x59_110, x59_113, x59_114, x59_117, x59_120, x59_121, x59_124, x59_128, bst_T0, bst_T, bst_N, bst_I0, bst_I, bst_R0, bst_R, bst_B, bst_X, bst_S, bst_A, bst_sI, bst_sI0, bst_sC, bst_sY, bst_sE, bI_s, bI_o, bI_2, bI_bI, bC_1, bY_1, bE_1, bT, bN, bR, rf_ref, rf_va, rf_null, c1_int, c1_ref, c1_UV, rvo_n, rvo_r, c1_null, c1_va, up_s, up_o, va_rf_some, va_rf_none, litA, litB, litM, nI_add, okZ_0, okZ_1, okZ_zb, zb_0, gB_add, inb_lit, cl_lit, Nat.lt_irrefl, ↓reduceIte, if_true, if_false, RP_v, RP_n, tx, hxb, tb, rb, ib, tj, nj, ij, rj, sK, sA, zT, zR0, zR1, zR2, zR3, zR4, zR5, zR6, zT1, zT2, zT5, zT6, zT7, zN5, zN6, zN7, zc3, zc4, zc5, zc6, zc7, sc, q, g2, srF]
  · rw [g1]
    simp [x59_0, x59_1, x59_2, x59_5, x59_6, x59_44, x59_45, x59_48, x59_51, x59_52, x59_53, x59_54, x59_55, x59_56, x59_57, x59_60, x59_61, x59_62, x59_65, x59_68, x59_69, x59_70, x59_71, x59_72, x59_73, x59_76, x59_77, x59_78, x59_81, x59_82, x59_85, x59_88, x59_89, x59_92, x59_93, x59_94, x59_95, x59_98, x59_99, x59_102n, x59_102r, x59_105, x59_106, x59_109, x59_110, x59_113, x59_114, x59_117, x59_120, x59_121, x59_124, x59_128, bst_T0, bst_T, bst_N, bst_I0, bst_I, bst_R0, bst_R, bst_B, bst_X, bst_S, bst_A, bst_sI, bst_sI0, bst_sC, bst_sY, bst_sE, bI_s, bI_o, bI_2, bI_bI, bC_1, bY_1, bE_1, bT, bN, bR, rf_ref, rf_va, rf_null, c1_int, c1_ref, c1_UV, rvo_n, rvo_r, c1_null, c1_va, up_s, up_o, va_rf_some, va_rf_none, litA, litB, litM, nI_add, okZ_0, okZ_1, okZ_zb, zb_0, gB_add, inb_lit, cl_lit, Nat.lt_irrefl, ↓reduceIte, if_true, if_false, RP_v, RP_n, tx, hxb, tb, rb, ib, tj, nj, ij, rj, sK, sA, zT, zR0, zR1, zR2, zR3, zR4, zR5, zR6, zT1, zT2, zT5, zT6, zT7, zN5, zN6, zN7, zc3, zc4, zc5, zc6, zc7, sc, q, g2, g3, g4, srF]
end

/-! THE COMPONENT's questions: votes -/
section
variable {b n x m K A z hn : Nat} {G : Hp} {s t : Bs} {c w r r' : Rw} {ow : Nat → Nat} {hr : Nat → Rw} {sv : Option Rw}
/-- the present bus is written -/
theorem XW.upd {f : Nat → Option Nat} {m' : Nat} (h : XW ow G x c w K A z b s m r hr hn sv) (h2 : BS (sRr G s.2.2.2.2 f) b t c w r' K A m') (e1 : t.2.1 = s.2.1) (e2 : t.2.2.1 = s.2.2.1) (e3 : t.2.2.2.2 = s.2.2.2.2) (hf : gB G ≤ s.2.2.2.2 ∨ f = gR G s.2.2.2.2) (hrs : ∀ q, RS (sRr G s.2.2.2.2 f) t m' q → RS G s m q) (hR' : RJ r' K A) :
    XW ow (bst (sRr G s.2.2.2.2 f) b t) x c w K A z b t m' r' hr hn sv ∧ Fr (fun a => ow a = b) 0 0 G (bst (sRr G s.2.2.2.2 f) b t) := by
  have hxb := h.xb
  obtain ⟨h1, hx, h3, h4, h5, h6, h7, h8⟩ := h
  obtain ⟨q1, q2, q3, q4⟩ := h4.upd h5 h1 h2 e1 e2 e3 hf hrs
  have hb1 := h5.1
  have x1 := hx.1
  have ff : Fr (fun a => ow a = b) 0 0 G (bst (sRr G s.2.2.2.2 f) b t) := q2.mono (fun a ha hp => by
    rcases hp with y | ⟨y1, y2⟩
    · obtain ⟨j, hj⟩ : ∃ j, a = b + j := ⟨a - b, by omega⟩
      rw [hj]; exact h5.2.1 j (by omega)
    · rcases h5.2.2.1 with w' | w'
      · have := h1.1; omega
      · rw [y1]; exact w') (Nat.le_refl _) (Nat.le_refl _)
  have ox : ow x = x := hx.2.2.2.1 0 (by omega)
  have sx := ff.s (a := x) (by have := hx.2.2.1; omega) (by omega)
  exact ⟨⟨h1.fr ff, hx.fr0 h1 ff (fun a ha hp => by omega), (sx.2.2.2.2 1).trans h3, q1, q4, e1.trans h6, hR', h8.frame h1 hx hxb hb1 ff (sx.2.2.2.2 2) (fun a ha hp => Or.inr (Or.inl hp))⟩, ff⟩
/-- only the block is written -/
theorem XW.upd0 (h : XW ow G x c w K A z b s m r hr hn sv) (h2 : BS G b t c w r' K A m) (e : t.2 = s.2) (hR' : RJ r' K A) :
    XW ow (bst G b t) x c w K A z b t m r' hr hn sv ∧ Fr (fun a => ow a = b) 0 0 G (bst G b t) := by
  have q := h.upd (f := gR G s.2.2.2.2) (m' := m) (t := t) (r' := r') (by rw [sRr_id]; exact h2) (by rw [e]) (by rw [e]) (by rw [e]) (Or.inr rfl) (fun q hq => by rw [sRr_id] at hq; exact hq.of e) hR'
  rw [sRr_id] at q
  exact q
theorem BS.shC {c' : Rw} (hR : RJ r K A) (h : BS G b s c w r K A m) : BS G b (shC s c' w r K A) c w r K A m := by
  refine h.of hR.n40 ?_ rfl ?_ ?_ ?_ rfl rfl rfl (fun _ _ _ => rfl)
  · unfold Jvm.Pilot.X.shC shU
    exact (((h.2.2.2.2.1.row_s (by omega)).row_s (by omega)).row_s (by omega)).row_s (by omega)
  · unfold Jvm.Pilot.X.shC; rw [shU_17, up_o (by decide)]
  · unfold Jvm.Pilot.X.shC; rw [shU_o (by decide) (by decide) (by decide) (by decide)]
  · unfold Jvm.Pilot.X.shC; rw [shU_o (by decide) (by decide) (by decide) (by decide)]
end
section
variable {d b n x m K A z hn : Nat} {G : Hp} {s : Bs} {c w r : Rw} {ow : Nat → Nat} {hr : Nat → Rw} {sv : Option Rw}
set_option maxHeartbeats 4000000
set_option maxRecDepth 20000
/-- the world once the votes are counted -/
def cnH (G : Hp) (b : Nat) (s : Bs) (c w r : Rw) (K A : Nat) : Hp := bst G b (shC s c w r K A)
theorem s_cn {v : Int32} (hC : CW c w K A) (h : XW ow G x c w K A z b s m r hr hn sv) : XP PP (d + 2) 118 0 [.ref b, .int v, UV] [] (G) = some (.inl (some (.ref (b + 17))), cnH G b s (va_up c 19 v) w r K A) ∧ SHH (cnH G b s (va_up c 19 v) w r K A) (b + 17) (va_up c 19 v) w r K A ∧ gI (cnH G b s (va_up c 19 v) w r K A) (b + 17) 4 = nI (cnt (cnB (va_up c 19 v) r) A) ∧ XW ow (cnH G b s (va_up c 19 v) w r K A) x c w K A z b (shC s (va_up c 19 v) w r K A) m r hr hn sv ∧ Fr (fun a => ow a = b) 0 0 G (cnH G b s (va_up c 19 v) w r K A) := by
  have hV := BS.V h.2.2.2.1.2.1 hC h.2.2.2.2.2.2.1
  have sc := s_busCount (d := d) (x := v) hV
  rw [isB_bst h.2.2.2.1.1] at sc
  have hX := h.upd0 (t := shC s (va_up c 19 v) w r K A) (h.2.2.2.1.2.1.shC h.2.2.2.2.2.2.1) rfl h.2.2.2.2.2.2.1
  refine ⟨sc, shC_SHH hC hV, ?_, hX⟩
  unfold cnH
  rw [bst_I (j := 17) (by omega)]
  unfold shC
  rw [shU_17, up_s]
theorem CW.c19 (hC : CW c w K A) : va_up c 19 (-1) = c := by have := va_up_id (f := c) (k := 19); rwa [hC.2.2] at this
theorem s_points1 {k : Int32} (hC : CW c w K A) (h : XW ow G x c w K A z b s m r hr hn sv) : XP PP (d + 3) 69 0 [.ref x, .int k] [] G = if irB k 0 (nI K - 1) = true then some (.inl (some (.int (pts c w r K A (cl k)))), cnH G b s c w r K A) else thr 23 G := by
  have sc2 := fun d => s_ckKind (d := d) (a := k) hC h
  have cn := fun d => (s_cn (d := d) (v := -1) hC h).1
  obtain ⟨-, hSH, -⟩ := s_cn (d := 0) (v := -1) hC h
  rw [hC.c19] at cn hSH
  obtain ⟨hh, hx, hxb, hBB, hOW, hz, hRJ, hXH⟩ := h; subst hz; obtain ⟨i0, ⟨hgb, hS, hoz, h17, hBI, hTY, hBQ⟩, hLB, hbx, hzx, hcx, htx, hZL⟩ := hBB; have hC5 := hC.K5; have hC8 := hC.A8; have hn40 := hRJ.n40; have tx : gT G x = 1 := hx.2.2.2.2.1; have tb : gT G b = 6 := i0.T (j := 0) (by omega); have rb : ∀ k, gR G b k = bR (gA G) b s 0 k := fun k => i0.R (j := 0) (by omega); have ib : ∀ k, gI G b k = s.1 0 k := fun k => i0.I (j := 0) (by omega); have tj : ∀ j, j < 21 → gT G (b + j) = bT j := fun j hj => i0.T hj; have nj : ∀ j, j < 21 → gN G (b + j) = bN j := fun j hj => (i0 j hj).2.1; have ij : ∀ j k, j < 21 → gI G (b + j) k = s.1 j k := fun j k hj => i0.I hj; have rj : ∀ j k, j < 21 → gR G (b + j) k = bR (gA G) b s j k := fun j k hj => i0.R hj; have hS' := hS; have sK := fun d => s_suClassesG (d := d) hS; have sA := fun d => s_suAskersG (d := d) hS; obtain ⟨zT, zR0, zR1, zR2, zR3, zR4, zR5, zR6, zT1, zT2, zT5, zT6, zT7, zN5, zN6, zN7, zK, zA, zW, zc3, zc4, zc5, zc6, zc7⟩ := hS; have zT' := zT
  by_cases q : irB k 0 (nI K - 1) = true
  · rw [if_pos q]
    obtain ⟨k', hk, rfl⟩ := irB_nI hC.1.2.1 (by omega) q
    have j0 : cl (nI k') = k' := nI_clamp (by omega)
    have j1 : inb (nI k') 5 = true := inb_nI (by omega) (by omega)
    have j2 : (nI k').toNatClampNeg = k' := nI_clamp (by omega)
    obtain ⟨qT, qR0, qR1, qR2, qT1, qT2, qT3, qN1, qN2, qN3, qK, qP, qF, qB, hK, hA, hw, hB⟩ := hSH
    have e := qP k' hk
    simp [x69_0, x69_1, x69_2, x69_5, x69_6, x69_9, x69_10, x69_13, x69_16, x69_17, x69_18, bst_T0, bst_T, bst_N, bst_I0, bst_I, bst_R0, bst_R, bst_B, bst_X, bst_S, bst_A, bst_sI, bst_sI0, bst_sC, bst_sY, bst_sE, bI_s, bI_o, bI_2, bI_bI, bC_1, bY_1, bE_1, bT, bN, bR, rf_ref, rf_va, rf_null, c1_int, c1_ref, c1_UV, rvo_n, rvo_r, c1_null, c1_va, up_s, up_o, va_rf_some, va_rf_none, litA, litB, litM, nI_add, okZ_0, okZ_1, okZ_zb, zb_0, gB_add, inb_lit, cl_lit, Nat.lt_irrefl, ↓reduceIte, if_true, if_false, RP_v, RP_n, tx, hxb, tb, rb, ib, tj, nj, ij, rj, sK, sA, zT, zR0, zR1, zR2, zR3, zR4, zR5, zR6, zT1, zT2, zT5, zT6, zT7, zN5, zN6, zN7, zc3, zc4, zc5, zc6, zc7, sc2, q, cn, qT, qR0, qT1, qN1, j0, j1, j2, e]
  · rw [if_neg q]
    simp [x69_0, x69_1, x69_2, x69_5, x69_6, x69_9, x69_10, x69_13, x69_16, x69_17, x69_18, rf_ref, rf_va, rf_null, c1_int, c1_ref, c1_UV, rvo_n, rvo_r, c1_null, c1_va, up_s, up_o, va_rf_some, va_rf_none, litA, litB, litM, nI_add, okZ_0, okZ_1, okZ_zb, zb_0, gB_add, inb_lit, cl_lit, Nat.lt_irrefl, ↓reduceIte, if_true, if_false, RP_v, RP_n, tx, sc2, q, RP_thr (show PP.2.2 69 2 23 = none from rfl)]
theorem s_firsts1 {k p : Int32} (hC : CW c w K A) (h : XW ow G x c w K A z b s m r hr hn sv) : XP PP (d + 3) 70 0 [.ref x, .int k, .int p] [] G = if (irB k 0 (nI K - 1) && irB p 0 (nI K - 1)) = true then some (.inl (some (.int (fis c w r A (cl k) (cl p)))), cnH G b s c w r K A) else thr 23 G := by
  have sc2 := fun d => s_ckKind (d := d) (a := k) hC h
  have sc3 := fun d => s_ckKind (d := d) (a := p) hC h
  have cn := fun d => (s_cn (d := d) (v := -1) hC h).1
  obtain ⟨-, hSH, -⟩ := s_cn (d := 0) (v := -1) hC h
  rw [hC.c19] at cn hSH
  obtain ⟨hh, hx, hxb, hBB, hOW, hz, hRJ, hXH⟩ := h; subst hz; obtain ⟨i0, ⟨hgb, hS, hoz, h17, hBI, hTY, hBQ⟩, hLB, hbx, hzx, hcx, htx, hZL⟩ := hBB; have hC5 := hC.K5; have hC8 := hC.A8; have hn40 := hRJ.n40; have tx : gT G x = 1 := hx.2.2.2.2.1; have tb : gT G b = 6 := i0.T (j := 0) (by omega); have rb : ∀ k, gR G b k = bR (gA G) b s 0 k := fun k => i0.R (j := 0) (by omega); have ib : ∀ k, gI G b k = s.1 0 k := fun k => i0.I (j := 0) (by omega); have tj : ∀ j, j < 21 → gT G (b + j) = bT j := fun j hj => i0.T hj; have nj : ∀ j, j < 21 → gN G (b + j) = bN j := fun j hj => (i0 j hj).2.1; have ij : ∀ j k, j < 21 → gI G (b + j) k = s.1 j k := fun j k hj => i0.I hj; have rj : ∀ j k, j < 21 → gR G (b + j) k = bR (gA G) b s j k := fun j k hj => i0.R hj; have hS' := hS; have sK := fun d => s_suClassesG (d := d) hS; have sA := fun d => s_suAskersG (d := d) hS; obtain ⟨zT, zR0, zR1, zR2, zR3, zR4, zR5, zR6, zT1, zT2, zT5, zT6, zT7, zN5, zN6, zN7, zK, zA, zW, zc3, zc4, zc5, zc6, zc7⟩ := hS; have zT' := zT
  by_cases q : irB k 0 (nI K - 1) = true
  · by_cases q2 : irB p 0 (nI K - 1) = true
    · rw [if_pos (by rw [q, q2]; rfl)]
      obtain ⟨k', hk, rfl⟩ := irB_nI hC.1.2.1 (by omega) q
      obtain ⟨p', hp, rfl⟩ := irB_nI hC.1.2.1 (by omega) q2
      have j0 : cl (nI k') = k' := nI_clamp (by omega)
      have j00 : cl (nI p') = p' := nI_clamp (by omega)
      have j1 : inb (nI (5 * k' + p')) 25 = true := inb_nI (by omega) (by omega)
      have j2 : (nI (5 * k' + p')).toNatClampNeg = 5 * k' + p' := nI_clamp (by omega)
      have e2 : (5 : Int32) * nI k' = nI (5 * k') := pk_mul 5 k'
      obtain ⟨qT, qR0, qR1, qR2, qT1, qT2, qT3, qN1, qN2, qN3, qK, qP, qF, qB, hK, hA, hw, hB⟩ := hSH
      have e := qF k' p' hk hp
      simp [x70_0, x70_1, x70_2, x70_5, x70_6, x70_7, x70_10, x70_11, x70_14, x70_15, x70_18, x70_21, x70_22, x70_23, x70_24, x70_25, x70_26, x70_27, bst_T0, bst_T, bst_N, bst_I0, bst_I, bst_R0, bst_R, bst_B, bst_X, bst_S, bst_A, bst_sI, bst_sI0, bst_sC, bst_sY, bst_sE, bI_s, bI_o, bI_2, bI_bI, bC_1, bY_1, bE_1, bT, bN, bR, rf_ref, rf_va, rf_null, c1_int, c1_ref, c1_UV, rvo_n, rvo_r, c1_null, c1_va, up_s, up_o, va_rf_some, va_rf_none, litA, litB, litM, nI_add, okZ_0, okZ_1, okZ_zb, zb_0, gB_add, inb_lit, cl_lit, Nat.lt_irrefl, ↓reduceIte, if_true, if_false, RP_v, RP_n, tx, hxb, tb, rb, ib, tj, nj, ij, rj, sK, sA, zT, zR0, zR1, zR2, zR3, zR4, zR5, zR6, zT1, zT2, zT5, zT6, zT7, zN5, zN6, zN7, zc3, zc4, zc5, zc6, zc7, sc2, sc3, q, q2, cn, qT, qR1, qT2, qN2, j0, j00, j1, j2, e, e2]
    · rw [if_neg (by simp [q2])]
      simp [x70_0, x70_1, x70_2, x70_5, x70_6, x70_7, x70_10, x70_11, x70_14, x70_15, x70_18, x70_21, x70_22, x70_23, x70_24, x70_25, x70_26, x70_27, rf_ref, rf_va, rf_null, c1_int, c1_ref, c1_UV, rvo_n, rvo_r, c1_null, c1_va, up_s, up_o, va_rf_some, va_rf_none, litA, litB, litM, nI_add, okZ_0, okZ_1, okZ_zb, zb_0, gB_add, inb_lit, cl_lit, Nat.lt_irrefl, ↓reduceIte, if_true, if_false, RP_v, RP_n, tx, sc2, sc3, q, q2, RP_thr (show PP.2.2 70 7 23 = none from rfl)]
  · rw [if_neg (by simp [q])]
    simp [x70_0, x70_1, x70_2, x70_5, x70_6, x70_7, x70_10, x70_11, x70_14, x70_15, x70_18, x70_21, x70_22, x70_23, x70_24, x70_25, x70_26, x70_27, rf_ref, rf_va, rf_null, c1_int, c1_ref, c1_UV, rvo_n, rvo_r, c1_null, c1_va, up_s, up_o, va_rf_some, va_rf_none, litA, litB, litM, nI_add, okZ_0, okZ_1, okZ_zb, zb_0, gB_add, inb_lit, cl_lit, Nat.lt_irrefl, ↓reduceIte, if_true, if_false, RP_v, RP_n, tx, sc2, q, RP_thr (show PP.2.2 70 2 23 = none from rfl)]
theorem s_beats1 {k p : Int32} (hC : CW c w K A) (h : XW ow G x c w K A z b s m r hr hn sv) : XP PP (d + 3) 71 0 [.ref x, .int k, .int p] [] G = if (irB k 0 (nI K - 1) && irB p 0 (nI K - 1)) = true then some (.inl (some (.int (zb (bts c w r A (cl k) (cl p))))), cnH G b s c w r K A) else thr 23 G := by
  have sc2 := fun d => s_ckKind (d := d) (a := k) hC h
  have sc3 := fun d => s_ckKind (d := d) (a := p) hC h
  have cn := fun d => (s_cn (d := d) (v := -1) hC h).1
  obtain ⟨-, hSH, -⟩ := s_cn (d := 0) (v := -1) hC h
  rw [hC.c19] at cn hSH
  obtain ⟨hh, hx, hxb, hBB, hOW, hz, hRJ, hXH⟩ := h; subst hz; obtain ⟨i0, ⟨hgb, hS, hoz, h17, hBI, hTY, hBQ⟩, hLB, hbx, hzx, hcx, htx, hZL⟩ := hBB; have hC5 := hC.K5; have hC8 := hC.A8; have hn40 := hRJ.n40; have tx : gT G x = 1 := hx.2.2.2.2.1; have tb : gT G b = 6 := i0.T (j := 0) (by omega); have rb : ∀ k, gR G b k = bR (gA G) b s 0 k := fun k => i0.R (j := 0) (by omega); have ib : ∀ k, gI G b k = s.1 0 k := fun k => i0.I (j := 0) (by omega); have tj : ∀ j, j < 21 → gT G (b + j) = bT j := fun j hj => i0.T hj; have nj : ∀ j, j < 21 → gN G (b + j) = bN j := fun j hj => (i0 j hj).2.1; have ij : ∀ j k, j < 21 → gI G (b + j) k = s.1 j k := fun j k hj => i0.I hj; have rj : ∀ j k, j < 21 → gR G (b + j) k = bR (gA G) b s j k := fun j k hj => i0.R hj; have hS' := hS; have sK := fun d => s_suClassesG (d := d) hS; have sA := fun d => s_suAskersG (d := d) hS; obtain ⟨zT, zR0, zR1, zR2, zR3, zR4, zR5, zR6, zT1, zT2, zT5, zT6, zT7, zN5, zN6, zN7, zK, zA, zW, zc3, zc4, zc5, zc6, zc7⟩ := hS; have zT' := zT
  by_cases q : irB k 0 (nI K - 1) = true
  · by_cases q2 : irB p 0 (nI K - 1) = true
    · rw [if_pos (by rw [q, q2]; rfl)]
      obtain ⟨k', hk, rfl⟩ := irB_nI hC.1.2.1 (by omega) q
      obtain ⟨p', hp, rfl⟩ := irB_nI hC.1.2.1 (by omega) q2
      have j0 : cl (nI k') = k' := nI_clamp (by omega)
      have j00 : cl (nI p') = p' := nI_clamp (by omega)
      have sb := fun d => s_beatsC (d := d) hSH hk hp
      have qT := hSH.1
      rw [j0, j00]
      by_cases q3 : bts c w r A k' p' = true
      · simp [x71_0, x71_1, x71_2, x71_5, x71_6, x71_7, x71_10, x71_11, x71_14, x71_15, x71_18, x71_19, x71_20, x71_23, bst_T0, bst_T, bst_N, bst_I0, bst_I, bst_R0, bst_R, bst_B, bst_X, bst_S, bst_A, bst_sI, bst_sI0, bst_sC, bst_sY, bst_sE, bI_s, bI_o, bI_2, bI_bI, bC_1, bY_1, bE_1, bT, bN, bR, rf_ref, rf_va, rf_null, c1_int, c1_ref, c1_UV, rvo_n, rvo_r, c1_null, c1_va, up_s, up_o, va_rf_some, va_rf_none, litA, litB, litM, nI_add, okZ_0, okZ_1, okZ_zb, zb_0, gB_add, inb_lit, cl_lit, Nat.lt_irrefl, ↓reduceIte, if_true, if_false, RP_v, RP_n, tx, hxb, tb, rb, ib, tj, nj, ij, rj, sK, sA, zT, zR0, zR1, zR2, zR3, zR4, zR5, zR6, zT1, zT2, zT5, zT6, zT7, zN5, zN6, zN7, zc3, zc4, zc5, zc6, zc7, sc2, sc3, q, q2, cn, qT, sb, q3, okZ_zb]
      · simp [x71_0, x71_1, x71_2, x71_5, x71_6, x71_7, x71_10, x71_11, x71_14, x71_15, x71_18, x71_19, x71_20, x71_23, bst_T0, bst_T, bst_N, bst_I0, bst_I, bst_R0, bst_R, bst_B, bst_X, bst_S, bst_A, bst_sI, bst_sI0, bst_sC, bst_sY, bst_sE, bI_s, bI_o, bI_2, bI_bI, bC_1, bY_1, bE_1, bT, bN, bR, rf_ref, rf_va, rf_null, c1_int, c1_ref, c1_UV, rvo_n, rvo_r, c1_null, c1_va, up_s, up_o, va_rf_some, va_rf_none, litA, litB, litM, nI_add, okZ_0, okZ_1, okZ_zb, zb_0, gB_add, inb_lit, cl_lit, Nat.lt_irrefl, ↓reduceIte, if_true, if_false, RP_v, RP_n, tx, hxb, tb, rb, ib, tj, nj, ij, rj, sK, sA, zT, zR0, zR1, zR2, zR3, zR4, zR5, zR6, zT1, zT2, zT5, zT6, zT7, zN5, zN6, zN7, zc3, zc4, zc5, zc6, zc7, sc2, sc3, q, q2, cn, qT, sb, q3, okZ_zb]
    · rw [if_neg (by simp [q2])]
      simp [x71_0, x71_1, x71_2, x71_5, x71_6, x71_7, x71_10, x71_11, x71_14, x71_15, x71_18, x71_19, x71_20, x71_23, rf_ref, rf_va, rf_null, c1_int, c1_ref, c1_UV, rvo_n, rvo_r, c1_null, c1_va, up_s, up_o, va_rf_some, va_rf_none, litA, litB, litM, nI_add, okZ_0, okZ_1, okZ_zb, zb_0, gB_add, inb_lit, cl_lit, Nat.lt_irrefl, ↓reduceIte, if_true, if_false, RP_v, RP_n, tx, sc2, sc3, q, q2, RP_thr (show PP.2.2 71 7 23 = none from rfl)]
  · rw [if_neg (by simp [q])]
    simp [x71_0, x71_1, x71_2, x71_5, x71_6, x71_7, x71_10, x71_11, x71_14, x71_15, x71_18, x71_19, x71_20, x71_23, rf_ref, rf_va, rf_null, c1_int, c1_ref, c1_UV, rvo_n, rvo_r, c1_null, c1_va, up_s, up_o, va_rf_some, va_rf_none, litA, litB, litM, nI_add, okZ_0, okZ_1, okZ_zb, zb_0, gB_add, inb_lit, cl_lit, Nat.lt_irrefl, ↓reduceIte, if_true, if_false, RP_v, RP_n, tx, sc2, q, RP_thr (show PP.2.2 71 2 23 = none from rfl)]
theorem s_wins1 {k : Int32} (hC : CW c w K A) (h : XW ow G x c w K A z b s m r hr hn sv) : XP PP (d + 3) 72 0 [.ref x, .int k] [] G = if irB k 0 (nI K - 1) = true then some (.inl (some (.int (nI (wns c w r K A (cl k))))), cnH G b s c w r K A) else thr 23 G := by
  have sc2 := fun d => s_ckKind (d := d) (a := k) hC h
  have cn := fun d => (s_cn (d := d) (v := -1) hC h).1
  obtain ⟨-, hSH, -⟩ := s_cn (d := 0) (v := -1) hC h
  rw [hC.c19] at cn hSH
  obtain ⟨hh, hx, hxb, hBB, hOW, hz, hRJ, hXH⟩ := h; subst hz; obtain ⟨i0, ⟨hgb, hS, hoz, h17, hBI, hTY, hBQ⟩, hLB, hbx, hzx, hcx, htx, hZL⟩ := hBB; have hC5 := hC.K5; have hC8 := hC.A8; have hn40 := hRJ.n40; have tx : gT G x = 1 := hx.2.2.2.2.1; have tb : gT G b = 6 := i0.T (j := 0) (by omega); have rb : ∀ k, gR G b k = bR (gA G) b s 0 k := fun k => i0.R (j := 0) (by omega); have ib : ∀ k, gI G b k = s.1 0 k := fun k => i0.I (j := 0) (by omega); have tj : ∀ j, j < 21 → gT G (b + j) = bT j := fun j hj => i0.T hj; have nj : ∀ j, j < 21 → gN G (b + j) = bN j := fun j hj => (i0 j hj).2.1; have ij : ∀ j k, j < 21 → gI G (b + j) k = s.1 j k := fun j k hj => i0.I hj; have rj : ∀ j k, j < 21 → gR G (b + j) k = bR (gA G) b s j k := fun j k hj => i0.R hj; have hS' := hS; have sK := fun d => s_suClassesG (d := d) hS; have sA := fun d => s_suAskersG (d := d) hS; obtain ⟨zT, zR0, zR1, zR2, zR3, zR4, zR5, zR6, zT1, zT2, zT5, zT6, zT7, zN5, zN6, zN7, zK, zA, zW, zc3, zc4, zc5, zc6, zc7⟩ := hS; have zT' := zT
  by_cases q : irB k 0 (nI K - 1) = true
  · rw [if_pos q]
    obtain ⟨k', hk, rfl⟩ := irB_nI hC.1.2.1 (by omega) q
    have j0 : cl (nI k') = k' := nI_clamp (by omega)
    have sw := fun d => s_winsC (d := d) hSH hk
    have qT := hSH.1
    rw [j0]
    simp [x72_0, x72_1, x72_2, x72_5, x72_6, x72_9, x72_10, x72_13, x72_14, x72_17, bst_T0, bst_T, bst_N, bst_I0, bst_I, bst_R0, bst_R, bst_B, bst_X, bst_S, bst_A, bst_sI, bst_sI0, bst_sC, bst_sY, bst_sE, bI_s, bI_o, bI_2, bI_bI, bC_1, bY_1, bE_1, bT, bN, bR, rf_ref, rf_va, rf_null, c1_int, c1_ref, c1_UV, rvo_n, rvo_r, c1_null, c1_va, up_s, up_o, va_rf_some, va_rf_none, litA, litB, litM, nI_add, okZ_0, okZ_1, okZ_zb, zb_0, gB_add, inb_lit, cl_lit, Nat.lt_irrefl, ↓reduceIte, if_true, if_false, RP_v, RP_n, tx, hxb, tb, rb, ib, tj, nj, ij, rj, sK, sA, zT, zR0, zR1, zR2, zR3, zR4, zR5, zR6, zT1, zT2, zT5, zT6, zT7, zN5, zN6, zN7, zc3, zc4, zc5, zc6, zc7, sc2, q, cn, qT, sw]
  · rw [if_neg q]
    simp [x72_0, x72_1, x72_2, x72_5, x72_6, x72_9, x72_10, x72_13, x72_14, x72_17, rf_ref, rf_va, rf_null, c1_int, c1_ref, c1_UV, rvo_n, rvo_r, c1_null, c1_va, up_s, up_o, va_rf_some, va_rf_none, litA, litB, litM, nI_add, okZ_0, okZ_1, okZ_zb, zb_0, gB_add, inb_lit, cl_lit, Nat.lt_irrefl, ↓reduceIte, if_true, if_false, RP_v, RP_n, tx, sc2, q, RP_thr (show PP.2.2 72 2 23 = none from rfl)]
theorem s_champion1 (hC : CW c w K A) (h : XW ow G x c w K A z b s m r hr hn sv) : XP PP (d + 3) 47 0 [.ref x, UV, UV] [] (G) = some (.inl (some (.int (chV c w r K A))), cnH G b s c w r K A) := by
  have cn := fun d => (s_cn (d := d) (v := -1) hC h).1
  obtain ⟨-, hSH, h4, -⟩ := s_cn (d := 0) (v := -1) hC h
  rw [hC.c19] at cn hSH h4
  obtain ⟨hh, hx, hxb, hBB, hOW, hz, hRJ, hXH⟩ := h; subst hz; obtain ⟨i0, ⟨hgb, hS, hoz, h17, hBI, hTY, hBQ⟩, hLB, hbx, hzx, hcx, htx, hZL⟩ := hBB; have hC5 := hC.K5; have hC8 := hC.A8; have hn40 := hRJ.n40; have tx : gT G x = 1 := hx.2.2.2.2.1; have tb : gT G b = 6 := i0.T (j := 0) (by omega); have rb : ∀ k, gR G b k = bR (gA G) b s 0 k := fun k => i0.R (j := 0) (by omega); have ib : ∀ k, gI G b k = s.1 0 k := fun k => i0.I (j := 0) (by omega); have tj : ∀ j, j < 21 → gT G (b + j) = bT j := fun j hj => i0.T hj; have nj : ∀ j, j < 21 → gN G (b + j) = bN j := fun j hj => (i0 j hj).2.1; have ij : ∀ j k, j < 21 → gI G (b + j) k = s.1 j k := fun j k hj => i0.I hj; have rj : ∀ j k, j < 21 → gR G (b + j) k = bR (gA G) b s j k := fun j k hj => i0.R hj; have hS' := hS; have sK := fun d => s_suClassesG (d := d) hS; have sA := fun d => s_suAskersG (d := d) hS; obtain ⟨zT, zR0, zR1, zR2, zR3, zR4, zR5, zR6, zT1, zT2, zT5, zT6, zT7, zN5, zN6, zN7, zK, zA, zW, zc3, zc4, zc5, zc6, zc7⟩ := hS; have zT' := zT
  have qT := hSH.1
  have qK : gI (cnH G b s c w r K A) (b + 17) 3 = nI K := hSH.2.2.2.2.2.2.2.2.2.2.1
  have h1K := hC.1.2.1
  have eK : nI K - 1 = nI (K - 1) := nI_sub (b := 1) h1K
  have hcA := cnt_le (cnB c r) A
  have hl : XP PP (d + 3) 47 11 [.ref x, .ref (b + 17), .int (nI 0)] [] (cnH G b s c w r K A) = some (.inl (some (.int (chV c w r K A))), cnH G b s c w r K A) := by
    unfold chV
    by_cases q : 0 < cnt (cnB c r) A
    · rw [if_pos (cnt_pos.mp q)]
      have q1 : ¬ nI (cnt (cnB c r) A) ≤ 0 := by rw [nJ_0, nI_leI (by omega) (by omega)]; omega
      refine (XP_fst K (fun k => decide (wns c w r K A k = K - 1)) (fun j => [.ref x, .ref (b + 17), .int (nI j)]) (fun _ => cnH G b s c w r K A) (X := some (.inl (some (.int (-1))), cnH G b s c w r K A)) (fun j => some (.inl (some (.int (nI j))), cnH G b s c w r K A)) ?_ ?_ ?_).trans ?_
      · intro j hj hp
        have hp' := of_decide_eq_true hp
        have e1 : ¬ nI K ≤ nI j := nI_ge hj (by omega)
        have sw := fun d => s_winsC (d := d) hSH hj
        refine (x47_11).trans ?_
        simp [x47_12, x47_13, x47_16, x47_19, x47_20, x47_23, x47_26, x47_27, x47_28, x47_31, x47_32, x47_35, x47_36, x47_37, x47_40, x47_41, x47_42, x47_45, x47_48, x47_49, rf_ref, rf_va, rf_null, c1_int, c1_ref, c1_UV, rvo_n, rvo_r, c1_null, c1_va, up_s, up_o, va_rf_some, va_rf_none, litA, litB, litM, nI_add, okZ_0, okZ_1, okZ_zb, zb_0, gB_add, inb_lit, cl_lit, Nat.lt_irrefl, ↓reduceIte, if_true, if_false, RP_v, RP_n, qT, qK, h4, e1, q1, sw, hp', eK]
      · intro j hj hp
        have hp' := of_decide_eq_false hp
        have e1 : ¬ nI K ≤ nI j := nI_ge hj (by omega)
        have sw := fun d => s_winsC (d := d) hSH hj
        have hw := cnt_le (bts c w r A j) K
        have e2 : ¬ nI (wns c w r K A j) = nI (K - 1) := fun z => hp' ((nI_eq (by unfold wns; omega) (by omega)).mp z)
        refine (x47_11).trans ?_
        simp [x47_12, x47_13, x47_16, x47_19, x47_20, x47_23, x47_26, x47_27, x47_28, x47_31, x47_32, x47_35, x47_36, x47_37, x47_40, x47_41, x47_42, x47_45, x47_48, x47_49, rf_ref, rf_va, rf_null, c1_int, c1_ref, c1_UV, rvo_n, rvo_r, c1_null, c1_va, up_s, up_o, va_rf_some, va_rf_none, litA, litB, litM, nI_add, okZ_0, okZ_1, okZ_zb, zb_0, gB_add, inb_lit, cl_lit, Nat.lt_irrefl, ↓reduceIte, if_true, if_false, RP_v, RP_n, qT, qK, h4, e1, q1, sw, e2, eK, nI_1]
      · have e1 : nI K ≤ nI K := Int32.le_refl _
        refine (x47_11).trans ?_
        simp [x47_12, x47_13, x47_16, x47_19, x47_20, x47_23, x47_26, x47_27, x47_28, x47_31, x47_32, x47_35, x47_36, x47_37, x47_40, x47_41, x47_42, x47_45, x47_48, x47_49, rf_ref, rf_va, rf_null, c1_int, c1_ref, c1_UV, rvo_n, rvo_r, c1_null, c1_va, up_s, up_o, va_rf_some, va_rf_none, litA, litB, litM, nI_add, okZ_0, okZ_1, okZ_zb, zb_0, gB_add, inb_lit, cl_lit, Nat.lt_irrefl, ↓reduceIte, if_true, if_false, RP_v, RP_n, qT, qK, e1]
      · cases fst (fun k => decide (wns c w r K A k = K - 1)) K <;> rfl
    · rw [if_neg (fun z => q (cnt_pos.mpr z))]
      have q1 : nI (cnt (cnB c r) A) ≤ 0 := by rw [nJ_0, nI_leI (by omega) (by omega)]; omega
      refine XP_for K (fun j => [.ref x, .ref (b + 17), .int (nI j)]) (fun _ => cnH G b s c w r K A) ?_ ?_ 0 (Nat.zero_le _)
      · intro j hj
        have e1 : ¬ nI K ≤ nI j := nI_ge hj (by omega)
        refine (x47_11).trans ?_
        simp [x47_12, x47_13, x47_16, x47_19, x47_20, x47_23, x47_26, x47_27, x47_28, x47_31, x47_32, x47_35, x47_36, x47_37, x47_40, x47_41, x47_42, x47_45, x47_48, x47_49, rf_ref, rf_va, rf_null, c1_int, c1_ref, c1_UV, rvo_n, rvo_r, c1_null, c1_va, up_s, up_o, va_rf_some, va_rf_none, litA, litB, litM, nI_add, okZ_0, okZ_1, okZ_zb, zb_0, gB_add, inb_lit, cl_lit, Nat.lt_irrefl, ↓reduceIte, if_true, if_false, RP_v, RP_n, qT, qK, h4, e1, q1, nI_1]
      · have e1 : nI K ≤ nI K := Int32.le_refl _
        refine (x47_11).trans ?_
        simp [x47_12, x47_13, x47_16, x47_19, x47_20, x47_23, x47_26, x47_27, x47_28, x47_31, x47_32, x47_35, x47_36, x47_37, x47_40, x47_41, x47_42, x47_45, x47_48, x47_49, rf_ref, rf_va, rf_null, c1_int, c1_ref, c1_UV, rvo_n, rvo_r, c1_null, c1_va, up_s, up_o, va_rf_some, va_rf_none, litA, litB, litM, nI_add, okZ_0, okZ_1, okZ_zb, zb_0, gB_add, inb_lit, cl_lit, Nat.lt_irrefl, ↓reduceIte, if_true, if_false, RP_v, RP_n, qT, qK, e1]
  have z1 : nI 0 = 0 := rfl
  rw [z1] at hl
  simp [x47_0, x47_1, x47_4, x47_5, x47_8, x47_9, x47_10, bst_T0, bst_T, bst_N, bst_I0, bst_I, bst_R0, bst_R, bst_B, bst_X, bst_S, bst_A, bst_sI, bst_sI0, bst_sC, bst_sY, bst_sE, bI_s, bI_o, bI_2, bI_bI, bC_1, bY_1, bE_1, bT, bN, bR, rf_ref, rf_va, rf_null, c1_int, c1_ref, c1_UV, rvo_n, rvo_r, c1_null, c1_va, up_s, up_o, va_rf_some, va_rf_none, litA, litB, litM, nI_add, okZ_0, okZ_1, okZ_zb, zb_0, gB_add, inb_lit, cl_lit, Nat.lt_irrefl, ↓reduceIte, if_true, if_false, RP_v, RP_n, tx, hxb, tb, rb, ib, tj, nj, ij, rj, sK, sA, zT, zR0, zR1, zR2, zR3, zR4, zR5, zR6, zT1, zT2, zT5, zT6, zT7, zN5, zN6, zN7, zc3, zc4, zc5, zc6, zc7, cn, hl]
end

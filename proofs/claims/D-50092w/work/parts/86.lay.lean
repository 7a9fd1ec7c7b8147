/-! THE COMPONENT's questions: what would be voted -/
section
variable {d b n x m K A z hn : Nat} {G : Hp} {s : Bs} {c w r : Rw} {ow : Nat → Nat} {hr : Nat → Rw} {sv : Option Rw}
/-- a row of the component's object is written -/
theorem XW.row {j : Nat} {F : Rw} (h : XW ow G x c w K A z b s m r hr hn sv) (h3 : 3 ≤ j) (h7 : j < 7) : XW ow (sIr G (x + j) F) x c w K A z b s m r hr hn sv := by
  have hxb := h.xb
  obtain ⟨h1, hx, hb, h4, h5, h6, h7', h8⟩ := h
  have hb1 := h5.1
  have x1 := hx.1
  have xX := hx.2.2.1
  have oj : ow (x + j) = x := hx.2.2.2.1 j (by omega)
  have ff : Fr (fun a => a = x + j) 0 0 G (sIr G (x + j) F) := Fr_sIr
  have sx := ff.s (a := x) (by omega) (by omega)
  have hT : ¬ gT G (x + j) = 13 ∧ ¬ gT G (x + j) = 110 := by
    obtain ⟨-, -, -, -, a1, -, -, -, -, -, -, -, t1, t2, t3, t4, t5, t6, t7, -⟩ := hx
    rcases (by omega : j = 3 ∨ j = 4 ∨ j = 5 ∨ j = 6) with rfl | rfl | rfl | rfl
    · rw [t3]; decide
    · rw [t4]; decide
    · rw [t5]; decide
    · rw [t6]; decide
  obtain ⟨q1, q2⟩ := h4.frame h5 h1 ff (fun a ha hp => by rw [hp, oj]; omega)
  refine ⟨h1.fr ff, hx.frame h1 (by have := hx.2.1; omega) ff (fun i hi => by omega) (fun i hi => ⟨rfl, rfl⟩) (fun a ha hp => by have := hx.2.1; omega), (sx.2.2.2.2 1).trans hb, q1, q2, h6, h7', h8.frame h1 hx hxb hb1 ff (sx.2.2.2.2 2) (fun a ha hp => Or.inr (Or.inr ?_))⟩
  rw [hp]
  exact ⟨oj, hT.1, hT.2⟩
set_option maxHeartbeats 4000000
set_option maxRecDepth 20000
theorem s_lay {v : Int32} {t ty j : Nat} (hC : CW c w K A) (h22 : C22 G) (h : XW ow G x c w K A z b s m r hr hn sv) (hj : j = 4 ∨ j = 5) (ht : t < 3) (hty : gT G ty = 2 + t) (hoty : inB b ty = false) :
    ∃ G' s', XP PP (d + 10) 133 0 [.ref b, .ref ty, .int v, .ref (x + j)] [] (G) = some (.inl (none), G') ∧ XW ow G' x c w K A z b s' m r hr hn sv ∧ Fr (fun a => ow a = b ∨ a = x + j) 0 0 G G' ∧ s'.2 = s.2 ∧ ∀ p, p < K → gI G' (x + j) p = tlF (va_up c 19 v) w r (fun _ => 0) K A (nI t) K p := by
  have hxb := h.xb
  have hx := h.2.1
  have cn := fun d => (s_cn (d := d) (v := v) hC h).1
  obtain ⟨-, hSH, h4, hXW, hFr⟩ := s_cn (d := 0) (v := v) hC h
  obtain ⟨G1, hG1⟩ : ∃ G1, G1 = cnH G b s (va_up c 19 v) w r K A := ⟨_, rfl⟩
  rw [← hG1] at cn hSH h4 hXW hFr
  have hx1 := hXW.2.1
  have i1 := hXW.2.2.2.1.1
  have hg1 := hXW.2.2.2.1.2.1.1
  have hbx1 := hXW.2.2.2.1.2.2.2.1
  have hBI1 := hXW.2.2.2.1.2.1.2.2.2.2.1
  have ob : ¬ x + j = b := fun e => by
    have q1 := i1.T (j := 0) (by omega)
    have q2 : gT G1 (x + j) = 100 := by
      obtain ⟨-, -, -, -, a1, -, -, -, -, -, -, -, t1, t2, t3, t4, t5, t6, t7, -⟩ := hx1
      rcases hj with rfl | rfl
      · exact t4
      · exact t5
    rw [Nat.add_zero, ← e, q2] at q1
    exact absurd q1 (by decide)
  have hjb : ∀ i, i < 21 → ¬ b + i = x + j := fun i hi e => by
    have o1 := hXW.2.2.2.2.1.2.1 i hi
    have o2 := hx1.2.2.2.1 j (by omega)
    rw [e, o2] at o1
    exact hxb o1
  have wT : gT G1 (x + j) = 100 := by
    obtain ⟨-, -, -, -, a1, -, -, -, -, -, -, -, t1, t2, t3, t4, t5, t6, t7, -⟩ := hx1
    rcases hj with rfl | rfl
    · exact t4
    · exact t5
  have wN : gN G1 (x + j) = 5 := by
    obtain ⟨-, -, -, -, a1, -, -, -, -, -, -, -, t1, t2, t3, t4, t5, t6, t7, n1, n3, n4, n5, -⟩ := hx1
    rcases hj with rfl | rfl
    · exact n4
    · exact n5
  have wB : gB G1 ≤ x + j := by have := hx1.2.1; omega
  have hcA := cnt_le (cnB (va_up c 19 v) r) A
  have hA8 := hC.A8
  have hK5 := hC.K5
  -- the end
  have fin : ∀ F : Rw, (∀ p, p < K → F p = tlF (va_up c 19 v) w r (fun _ => 0) K A (nI t) K p) → XW ow (sIr G1 (x + j) F) x c w K A z b (shC s (va_up c 19 v) w r K A) m r hr hn sv ∧ Fr (fun a => ow a = b ∨ a = x + j) 0 0 G (sIr G1 (x + j) F) ∧ (shC s (va_up c 19 v) w r K A).2 = s.2 ∧ ∀ p, p < K → gI (sIr G1 (x + j) F) (x + j) p = tlF (va_up c 19 v) w r (fun _ => 0) K A (nI t) K p := fun F hF =>
    ⟨hXW.row (by omega) (by omega), hFr.trans Fr_sIr, rfl, fun p hp => by rw [sIr_s]; exact hF p hp⟩
  have tb1 : gT G1 b = 6 := i1.T (j := 0) (by omega)
  have rb1 : ∀ k, gR G1 b k = bR (gA G1) b (shC s (va_up c 19 v) w r K A) 0 k := fun k => i1.R (j := 0) (by omega)
  have t17 : gT G1 (b + 17) = 7 := i1.T (j := 17) (by omega)
  have tb : gT G b = 6 := h.2.2.2.1.1.T (j := 0) (by omega)
  by_cases q : 0 < cnt (cnB (va_up c 19 v) r) A
  · have hany := cnt_pos.mp q
    have q1 : ¬ nI (cnt (cnB (va_up c 19 v) r) A) = 0 := fun e => by
      have := (nI_eq (b := 0) (by omega) (by omega)).mp e; omega
    have hty1 : gT G1 ty = 2 + t := by rw [hG1]; unfold cnH; rw [bst_Tr hoty]; exact hty
    have h221 : gT G1 (gA G1 22) = 2 := by rw [hG1]; unfold cnH; rw [bst_A, bst_Tr (h22.o h.2.2.2.1.2.1.1)]; exact h22.2
    obtain ⟨F, hF, -, hx'⟩ := s_orderC (d := d) (G := G1) (q := b + 17) (wr := x + j) (ty := ty) ht hty1 h221 hSH (fun i hi => by have := hjb (17 + i) (by omega); omega) wT wN wB
    obtain ⟨f1, f2, f3, f4⟩ := fin F (hF.tl hK5 hany)
    refine ⟨_, _, ?_, f1, f2, f3, f4⟩
    rcases (by omega : t = 0 ∨ t = 1 ∨ t = 2) with e | e | e <;> subst e <;> simp [x133_0, x133_1, x133_2, x133_5, x133_6, x133_7, x133_10, x133_13, x133_16, x133_17, x133_20, x133_21, x133_24, x133_27, x133_28, x133_29, x133_32, x133_33_2, x133_33_3, x133_33_4, x133_36, bst_T0, bst_T, bst_N, bst_I0, bst_I, bst_R0, bst_R, bst_B, bst_X, bst_S, bst_A, bst_sI, bst_sI0, bst_sC, bst_sY, bst_sE, bI_s, bI_o, bI_2, bI_bI, bC_1, bY_1, bE_1, bT, bN, bR, rf_ref, rf_va, rf_null, c1_int, c1_ref, c1_UV, rvo_n, rvo_r, c1_null, c1_va, up_s, up_o, va_rf_some, va_rf_none, litA, litB, litM, nI_add, okZ_0, okZ_1, okZ_zb, zb_0, gB_add, inb_lit, cl_lit, Nat.lt_irrefl, ↓reduceIte, if_true, if_false, RP_v, RP_n, tb, cn, tb1, rb1, t17, h4, q1, hty1, hx']
  · have q1 : nI (cnt (cnB (va_up c 19 v) r) A) = 0 := by rw [show cnt (cnB (va_up c 19 v) r) A = 0 by omega]; rfl
    have hany : ¬ (fst (cnB (va_up c 19 v) r) A).isSome = true := fun z => q (cnt_pos.mpr z)
    have T8 : gT G1 (b + 8) = 100 := i1.T (j := 8) (by omega)
    have N8 : gN G1 (b + 8) = 5 := (i1 8 (by omega)).2.1
    have stk := fun d => s_take (d := d) (G := G1) (x := b + 8) (y := x + j) T8 wT (by rw [wN, N8]; omega) (by rw [wN]; omega) wB
    rw [wN] at stk
    obtain ⟨f1, f2, f3, f4⟩ := fin (va_cpy (gI G1 (b + 8)) (gI G1 (x + j)) 0 0 5) (fun p hp => by
      rw [cpy_lt (show p < 5 by omega), tlF_none hany p hp, i1.I (by omega)]
      exact hBI1.o8 hp)
    refine ⟨_, _, ?_, f1, f2, f3, f4⟩
    simp [x133_0, x133_1, x133_2, x133_5, x133_6, x133_7, x133_10, x133_13, x133_16, x133_17, x133_20, x133_21, x133_24, x133_27, x133_28, x133_29, x133_32, x133_33_2, x133_33_3, x133_33_4, x133_36, bst_T0, bst_T, bst_N, bst_I0, bst_I, bst_R0, bst_R, bst_B, bst_X, bst_S, bst_A, bst_sI, bst_sI0, bst_sC, bst_sY, bst_sE, bI_s, bI_o, bI_2, bI_bI, bC_1, bY_1, bE_1, bT, bN, bR, rf_ref, rf_va, rf_null, c1_int, c1_ref, c1_UV, rvo_n, rvo_r, c1_null, c1_va, up_s, up_o, va_rf_some, va_rf_none, litA, litB, litM, nI_add, okZ_0, okZ_1, okZ_zb, zb_0, gB_add, inb_lit, cl_lit, Nat.lt_irrefl, ↓reduceIte, if_true, if_false, RP_v, RP_n, tb, cn, tb1, rb1, t17, h4, q1, stk]
end

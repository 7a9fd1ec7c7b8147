/-! the component: a tick, many ticks -/
theorem nxF_o {r : Rw} {K n x : Nat} (h : ¬ x = 8) : nxF r K n x = r x := by
  unfold nxF
  cases fst (nxB r n) K with
  | none => rfl
  | some p =>
    dsimp only
    cases fst (lnB r n (r (10 + p)) 0) n with
    | none => rfl
    | some i => exact up_o h
theorem RI_lf {r : Rw} {K A n i : Nat} {x : Int32} (hK : K ≤ 5) (hA : A ≤ 8) (h : RI r K A n) (hi : i < n) (hp : r (118 + 6 * i) = r 8) : RI (va_up r (118 + 6 * i + 4) x) K A n := by
  obtain ⟨a1, a2, a3, a4, a5, a6, a7⟩ := h
  obtain ⟨h1, h2, h3, h4, b, e9, s, h5, h6, h7, h8, h9, h10⟩ := a6
  have e : ∀ k, ¬ k = 118 + 6 * i + 4 → va_up r (118 + 6 * i + 4) x k = r k := fun k y => up_o y
  refine ⟨a1.of fun k x y => e k (by omega), a2.of hK fun k x y => e k (by omega), a3.of hK hA fun k x y => e k (by omega), a4.of hK fun k x y => e k (by omega), a5.of hA fun k x y => e k (by omega), ⟨h1, by rw [e 9 (by omega)]; exact h2, fun j hj => ?_, ?_, b, e9, s, h5, h6, by rw [e 6 (by omega)]; exact h7, by rw [e 7 (by omega)]; exact h8, fun j hj => by rw [e _ (by omega)]; exact h9 j hj, h10⟩, fun j hj => ?_⟩
  · unfold rq1
    rw [e _ (by omega), e _ (by omega), e _ (by omega)]
    exact h3 j hj
  · rw [e 8 (by omega)]
    rcases h4 with z | ⟨j, hj, z⟩
    · exact Or.inl z
    · exact Or.inr ⟨j, hj, by rw [e _ (by omega)]; exact z⟩
  · rw [e (118 + 6 * j) (by omega), e 8 (by omega), e (118 + 6 * j + 3) (by omega)]
    intro z
    have : ¬ j = i := fun w => by subst w; exact z hp
    rw [e _ (by omega)]
    exact a7 j hj z
section
variable {d b m : Nat} {G : Hp} {s : Bs} {c w r : Rw} {K A n : Nat}
set_option maxHeartbeats 4000000
set_option maxRecDepth 20000
theorem s_tk1 (hC : CW c w K A) (h22 : C22 G) (hR : RJ r K A) (h : BS G b s c w r K A m) :
    ∃ s', XP PP (d + 11) 123 0 [.ref b] [] (bst G b s) = XP PP (d + 11) 123 19 [.ref b] [] (bst G b s') ∧ BS G b s' c w (tk1 c w r (fun _ => 0) K A) K A m ∧ s'.2 = s.2 := by
  have i18 : s.1 0 18 = r 0 := h.2.2.2.2.1 0 18 0 rfl
  have z0 := h.2.2.1.z
  have hS := h.2.1
  obtain ⟨zT, zR0, zR1, zR2, zR3, zR4, zR5, zR6, zT1, zT2, zT5, zT6, zT7, zN5, zN6, zN7, zK, zA, zW, zc3, zc4, zc5, zc6, zc7⟩ := hS
  have c4 := hC.1.2.2.2.2.2.2.1
  unfold tk1 rem
  by_cases q : r 0 - r 0 / c 4 * c 4 = 0
  · rw [if_pos q]
    obtain ⟨s', e1, e2, e3⟩ := s_vote (d := d) hC h22 hR h
    refine ⟨s', ?_, e2, e3⟩
    simp [x123_0, x123_1, x123_4, x123_5, x123_8, x123_11, x123_12, x123_15, x123_16, bst_T0, bst_T, bst_N, bst_I0, bst_I, bst_R0, bst_R, bst_B, bst_X, bst_S, bst_A, bst_sI, bst_sI0, bst_sC, bst_sY, bst_sE, bI_s, bI_o, bI_2, bI_bI, bC_1, bY_1, bE_1, bT, bN, bR, rf_ref, rf_va, rf_null, c1_int, c1_ref, c1_UV, rvo_n, rvo_r, c1_null, c1_va, up_s, up_o, va_rf_some, va_rf_none, litA, litB, litM, nI_add, okZ_0, okZ_1, okZ_zb, zb_0, gB_add, inb_lit, cl_lit, Nat.lt_irrefl, ↓reduceIte, if_true, if_false, RP_v, RP_n, bst_Tr, bst_Ir, z0, zT, zc4, i18, c4, q, e1]
  · rw [if_neg q]
    refine ⟨s, ?_, h, rfl⟩
    simp [x123_0, x123_1, x123_4, x123_5, x123_8, x123_11, x123_12, x123_15, x123_16, bst_T0, bst_T, bst_N, bst_I0, bst_I, bst_R0, bst_R, bst_B, bst_X, bst_S, bst_A, bst_sI, bst_sI0, bst_sC, bst_sY, bst_sE, bI_s, bI_o, bI_2, bI_bI, bC_1, bY_1, bE_1, bT, bN, bR, rf_ref, rf_va, rf_null, c1_int, c1_ref, c1_UV, rvo_n, rvo_r, c1_null, c1_va, up_s, up_o, va_rf_some, va_rf_none, litA, litB, litM, nI_add, okZ_0, okZ_1, okZ_zb, zb_0, gB_add, inb_lit, cl_lit, Nat.lt_irrefl, ↓reduceIte, if_true, if_false, RP_v, RP_n, bst_Tr, bst_Ir, z0, zT, zc4, i18, c4, q]
theorem s_tk2 {t : Int32} (hC : CW c w K A) (hR : RJ r K A) (h : BS G b s c w r K A m) (h0 : r 0 = t) :
    ∃ s', XP PP (d + 11) 123 19 [.ref b] [] (bst G b s) = XP PP (d + 11) 123 45 [.ref b] [] (bst G b s') ∧ BS G b s' c w (tk2 c r t A) K A m ∧ s'.2 = s.2 := by
  have i18 : s.1 0 18 = t := (h.2.2.2.2.1 0 18 0 rfl).trans h0
  have z0 := h.2.2.1.z
  have hS := h.2.1
  obtain ⟨zT, zR0, zR1, zR2, zR3, zR4, zR5, zR6, zT1, zT2, zT5, zT6, zT7, zN5, zN6, zN7, zK, zA, zW, zc3, zc4, zc5, zc6, zc7⟩ := hS
  have c3 := hC.1.2.2.2.2.2.2.2
  unfold tk2 rem
  by_cases q1 : 0 < t
  · by_cases q : t - t / c 3 * c 3 = 0
    · rw [if_pos ⟨q1, q⟩]
      obtain ⟨s', e1, e2, e3⟩ := s_pass (d := d + 8) hC hR h
      refine ⟨s', ?_, e2, e3⟩
      simp [x123_19, x123_20, x123_23, x123_26, x123_27, x123_30, x123_31, x123_34, x123_37, x123_38, x123_41, x123_42, bst_T0, bst_T, bst_N, bst_I0, bst_I, bst_R0, bst_R, bst_B, bst_X, bst_S, bst_A, bst_sI, bst_sI0, bst_sC, bst_sY, bst_sE, bI_s, bI_o, bI_2, bI_bI, bC_1, bY_1, bE_1, bT, bN, bR, rf_ref, rf_va, rf_null, c1_int, c1_ref, c1_UV, rvo_n, rvo_r, c1_null, c1_va, up_s, up_o, va_rf_some, va_rf_none, litA, litB, litM, nI_add, okZ_0, okZ_1, okZ_zb, zb_0, gB_add, inb_lit, cl_lit, Nat.lt_irrefl, ↓reduceIte, if_true, if_false, RP_v, RP_n, bst_Tr, bst_Ir, z0, zT, zc3, i18, c3, q, q1, Int32.not_le.mpr q1, e1]
    · rw [if_neg (fun z => q z.2)]
      refine ⟨s, ?_, h, rfl⟩
      simp [x123_19, x123_20, x123_23, x123_26, x123_27, x123_30, x123_31, x123_34, x123_37, x123_38, x123_41, x123_42, bst_T0, bst_T, bst_N, bst_I0, bst_I, bst_R0, bst_R, bst_B, bst_X, bst_S, bst_A, bst_sI, bst_sI0, bst_sC, bst_sY, bst_sE, bI_s, bI_o, bI_2, bI_bI, bC_1, bY_1, bE_1, bT, bN, bR, rf_ref, rf_va, rf_null, c1_int, c1_ref, c1_UV, rvo_n, rvo_r, c1_null, c1_va, up_s, up_o, va_rf_some, va_rf_none, litA, litB, litM, nI_add, okZ_0, okZ_1, okZ_zb, zb_0, gB_add, inb_lit, cl_lit, Nat.lt_irrefl, ↓reduceIte, if_true, if_false, RP_v, RP_n, bst_Tr, bst_Ir, z0, zT, zc3, i18, c3, q, q1, Int32.not_le.mpr q1]
  · rw [if_neg (fun z => q1 z.1)]
    refine ⟨s, ?_, h, rfl⟩
    simp [x123_19, x123_20, x123_23, x123_26, x123_27, x123_30, x123_31, x123_34, x123_37, x123_38, x123_41, x123_42, bst_T0, bst_T, bst_N, bst_I0, bst_I, bst_R0, bst_R, bst_B, bst_X, bst_S, bst_A, bst_sI, bst_sI0, bst_sC, bst_sY, bst_sE, bI_s, bI_o, bI_2, bI_bI, bC_1, bY_1, bE_1, bT, bN, bR, rf_ref, rf_va, rf_null, c1_int, c1_ref, c1_UV, rvo_n, rvo_r, c1_null, c1_va, up_s, up_o, va_rf_some, va_rf_none, litA, litB, litM, nI_add, okZ_0, okZ_1, okZ_zb, zb_0, gB_add, inb_lit, cl_lit, Nat.lt_irrefl, ↓reduceIte, if_true, if_false, RP_v, RP_n, bst_Tr, bst_Ir, z0, zT, i18, q1, Int32.not_lt.mp q1]
/-- whether a request is in progress -/
theorem BQ.cur (hR : RI r K A n) (h : BQ G b s r n m) : (s.2.2.2.1 = none ∧ r 8 = -1) ∨ ∃ q i, s.2.2.2.1 = some q ∧ i < n ∧ r (118 + 6 * i) = r 8 ∧ ¬ r 8 = -1 ∧ fst (ixB r (r 8)) n = some i ∧ s.1 0 19 = r (118 + 6 * i + 4) := by
  rcases h.2.2.2.2.2.2 with ⟨a1, a2, -⟩ | ⟨q, i, a1, a2, a3, a4, a5, a6, a7, a8⟩
  · exact Or.inl ⟨a1, a2⟩
  · refine Or.inr ⟨q, i, a1, a2, a3, fun z => hR.ser1 a2 (a3.trans z), ?_, a7⟩
    have := ser_fst (ix := fun k => k) (m := n) hR (fun k hk => hk) (fun j k h _ => h) a2
    rw [a3] at this
    exact this
theorem s_tk3 (hC : CW c w K A) (hL : CLM G) (hR : RI r K A n) (h : BS G b s c w r K A m) (hN : gN G s.2.2.2.2 < 2 ^ 31) :
    ∃ f s' m', XP PP (d + 11) 123 45 [.ref b] [] (bst G b s) = XP PP (d + 11) 123 56 [.ref b] [] (bst (sRr G s.2.2.2.2 f) b s') ∧ BS (sRr G s.2.2.2.2 f) b s' c w (tk3 r K n) K A m' ∧ s'.2.1 = s.2.1 ∧ s'.2.2.1 = s.2.2.1 ∧ s'.2.2.2.2 = s.2.2.2.2 ∧ (gB G ≤ s.2.2.2.2 ∨ f = gR G s.2.2.2.2) ∧ ∀ q, RS (sRr G s.2.2.2.2 f) s' m' q → RS G s m q := by
  have hQ := h.2.2.2.2.2.2
  rw [hR.n9] at hQ
  unfold tk3
  rcases hQ.cur hR with ⟨a1, a2⟩ | ⟨q, i, a1, a2, a3, a4, -⟩
  · rw [if_pos a2]
    obtain ⟨f, s', m', e1, e2, e3, e4, e5, e6, e7⟩ := s_fetch (d := d + 5) hC hL hR h a1 hN
    refine ⟨f, s', m', ?_, e2, e3, e4, e5, e6, e7⟩
    simp [x123_45, x123_46, x123_49n, x123_49r, x123_52, x123_53, bst_T0, bst_T, bst_N, bst_I0, bst_I, bst_R0, bst_R, bst_B, bst_X, bst_S, bst_A, bst_sI, bst_sI0, bst_sC, bst_sY, bst_sE, bI_s, bI_o, bI_2, bI_bI, bC_1, bY_1, bE_1, bT, bN, bR, rf_ref, rf_va, rf_null, c1_int, c1_ref, c1_UV, rvo_n, rvo_r, c1_null, c1_va, up_s, up_o, va_rf_some, va_rf_none, litA, litB, litM, nI_add, okZ_0, okZ_1, okZ_zb, zb_0, gB_add, inb_lit, cl_lit, Nat.lt_irrefl, ↓reduceIte, if_true, if_false, RP_v, RP_n, a1, e1]
  · rw [if_neg a4]
    refine ⟨gR G s.2.2.2.2, s, m, ?_, ?_, rfl, rfl, rfl, Or.inr rfl, fun q hq => by rw [sRr_id] at hq; exact hq⟩
    · rw [sRr_id]
      simp [x123_45, x123_46, x123_49n, x123_49r, x123_52, x123_53, bst_T0, bst_T, bst_N, bst_I0, bst_I, bst_R0, bst_R, bst_B, bst_X, bst_S, bst_A, bst_sI, bst_sI0, bst_sC, bst_sY, bst_sE, bI_s, bI_o, bI_2, bI_bI, bC_1, bY_1, bE_1, bT, bN, bR, rf_ref, rf_va, rf_null, c1_int, c1_ref, c1_UV, rvo_n, rvo_r, c1_null, c1_va, up_s, up_o, va_rf_some, va_rf_none, litA, litB, litM, nI_add, okZ_0, okZ_1, okZ_zb, zb_0, gB_add, inb_lit, cl_lit, Nat.lt_irrefl, ↓reduceIte, if_true, if_false, RP_v, RP_n, a1]
    · rw [sRr_id]; exact h
theorem s_tk4 (hC : CW c w K A) (hR : RI r K A n) (h : BS G b s c w r K A m) :
    ∃ s', XP PP (d + 11) 123 56 [.ref b] [] (bst G b s) = some (.inl none, bst G b s') ∧ BS G b s' c w (va_up (tk4 r n) 0 (r 0 + 1)) K A m ∧ s'.2.1 = s.2.1 ∧ s'.2.2.1 = s.2.2.1 ∧ s'.2.2.2.2 = s.2.2.2.2 ∧ (s'.2.2.2.1 = none ∨ s'.2.2.2.1 = s.2.2.2.1) := by
  have hK := hC.K5
  have hA := hC.A8
  have hb := h.1
  have hQ := h.2.2.2.2.2.2
  rw [hR.n9] at hQ
  have hn40 : n ≤ 40 := hR.2.2.2.2.2.1.1
  -- the time
  have ht : ∀ s1 r1, BS G b s1 c w r1 K A m → cl (r1 9) ≤ 40 → r1 0 = r 0 → XP PP (d + 11) 123 84 [.ref b] [] (bst G b s1) = some (.inl none, bst G b (bI s1 0 (va_up (s1.1 0) 18 (r 0 + 1)))) ∧ BS G b (bI s1 0 (va_up (s1.1 0) 18 (r 0 + 1))) c w (va_up r1 0 (r 0 + 1)) K A m := by
    intro s1 r1 h1 hn e0
    have i18 : s1.1 0 18 = r 0 := (h1.2.2.2.2.1 0 18 0 rfl).trans e0
    refine ⟨?_, ?_⟩
    · simp [x123_84, x123_85, x123_86, x123_89, x123_90, x123_91, x123_94, bst_T0, bst_T, bst_N, bst_I0, bst_I, bst_R0, bst_R, bst_B, bst_X, bst_S, bst_A, bst_sI, bst_sI0, bst_sC, bst_sY, bst_sE, bI_s, bI_o, bI_2, bI_bI, bC_1, bY_1, bE_1, bT, bN, bR, rf_ref, rf_va, rf_null, c1_int, c1_ref, c1_UV, rvo_n, rvo_r, c1_null, c1_va, up_s, up_o, va_rf_some, va_rf_none, litA, litB, litM, nI_add, okZ_0, okZ_1, okZ_zb, zb_0, gB_add, inb_lit, cl_lit, Nat.lt_irrefl, ↓reduceIte, if_true, if_false, RP_v, RP_n, hb, i18]
    · exact h1.of hn (h1.2.2.2.2.1.up hK hA (show pos K A 0 18 = some 0 from rfl)) (by rw [bI_2]) (by rw [bI_o (by decide)]) (by rw [bI_o (by decide)]) (by rw [bI_s, up_o (by decide)]) (up_o (by decide)) (up_o (by decide)) (up_o (by decide)) (fun k hk _ => up_o (by omega))
  unfold tk4
  rcases hQ.cur hR with ⟨a1, a2⟩ | ⟨q, i, a1, a2, a3, a4, a5, a6⟩
  · rw [if_pos a2]
    obtain ⟨t1, t2⟩ := ht s r h (by rw [hR.n9]; exact hn40) rfl
    refine ⟨_, ?_, t2, rfl, rfl, rfl, Or.inr rfl⟩
    rw [← t1]
    simp [x123_56, x123_57, x123_60n, x123_60r, x123_63, x123_64, x123_65, x123_68, x123_69, x123_70, x123_73, x123_74, x123_77, x123_80, x123_81, bst_T0, bst_T, bst_N, bst_I0, bst_I, bst_R0, bst_R, bst_B, bst_X, bst_S, bst_A, bst_sI, bst_sI0, bst_sC, bst_sY, bst_sE, bI_s, bI_o, bI_2, bI_bI, bC_1, bY_1, bE_1, bT, bN, bR, rf_ref, rf_va, rf_null, c1_int, c1_ref, c1_UV, rvo_n, rvo_r, c1_null, c1_va, up_s, up_o, va_rf_some, va_rf_none, litA, litB, litM, nI_add, okZ_0, okZ_1, okZ_zb, zb_0, gB_add, inb_lit, cl_lit, Nat.lt_irrefl, ↓reduceIte, if_true, if_false, RP_v, RP_n, a1]
  · rw [if_neg a4, a5]
    dsimp only
    have h2 : BS G b (bI s 0 (va_up (s.1 0) 19 (r (118 + 6 * i + 4) - 1))) c w (va_up r (118 + 6 * i + 4) (r (118 + 6 * i + 4) - 1)) K A m := by
      obtain ⟨b1, b2, b3, b4, b5, b6, b7⟩ := h
      refine ⟨b1, b2, b3, by rw [bI_o (by decide)]; exact b4, (b5.up_s rfl).up_r hK hA (by omega), ?_, ?_⟩
      · show TYo G b s.2.2.1 _
        unfold TYo at b6 ⊢
        rw [up_o (by omega)]; exact b6
      · rw [up_o (by omega), hR.n9]
        obtain ⟨y1, y2, y3, y4, y5, y6, y7⟩ := hQ
        refine ⟨y1, y2, y3, y4, by rw [bI_o (by decide)]; exact y5, y6, Or.inr ?_⟩
        rcases y7 with ⟨z1, -⟩ | ⟨q', i', x1, x2, x3, x4, x5, x6, x7, x8⟩
        · rw [a1] at z1; cases z1
        · have : i' = i := hR.serI x2 a2 (by rw [x3, a3])
          subst this
          have hRQ : ∀ q k, RQ G q r k → RQ G q (va_up r (118 + 6 * i' + 4) (r (118 + 6 * i' + 4) - 1)) k := fun q k hh => by
            unfold RQ at hh ⊢
            rw [up_o (by omega), up_o (by omega), up_o (by omega), up_o (by omega), up_o (by omega)]
            exact hh
          refine ⟨q', i', x1, x2, by rw [up_o (by omega), up_o (by omega)]; exact x3, x4, x5, hRQ _ _ x6, by rw [bI_s, up_s, up_s], fun k hk => ?_⟩
          obtain ⟨q2, w1, w2, w3⟩ := x8 k hk
          exact ⟨q2, w1, w2, hRQ _ _ w3⟩
    have hR2 : RI (va_up r (118 + 6 * i + 4) (r (118 + 6 * i + 4) - 1)) K A n := RI_lf hK hA hR a2 a3
    unfold woF
    by_cases z : r (118 + 6 * i + 4) - 1 = 0
    · rw [if_pos z]
      obtain ⟨s', e1, e2, e3⟩ := s_answerC (d := d + 10) hC hR2 h2 a1 a2 (by rw [up_o (by omega), up_o (by omega)]; exact a3) (by rw [up_o (by omega)]; exact a4)
      rw [z] at e1 e2
      rw [z]
      have hn9 : cl (anF (va_up r (118 + 6 * i + 4) 0) n i 9) ≤ 40 := by
        have := (RI_an hK hA hR2 a2 (by rw [up_o (by omega), up_o (by omega)]; exact a3)).n9
        rw [z] at this
        omega
      have e0 : anF (va_up r (118 + 6 * i + 4) 0) n i 0 = r 0 := by
        unfold anF
        rw [tcF_lo (Or.inl (by omega)) (by decide) a2 hn40]
        have ha := (hR2.2.2.2.2.2.1.2.2.1 i a2)
        rw [z] at ha
        obtain ⟨a, ha1, ea⟩ := vp_in_of ha.1 (by omega)
        obtain ⟨k, hk1, ek⟩ := vp_in_of ha.2.1 (by omega)
        rw [ea, ek, show cl (nI a) = a from nI_clamp (by omega), show cl (nI k) = k from nI_clamp (by omega)]
        unfold anW
        rw [up_o (by omega), up_o (by omega), up_o (by omega), up_o (by omega), up_o (by omega), up_o (by omega), up_o (by omega), up_o (by omega), up_o (by omega), up_o (by omega), up_o (by omega), up_o (by omega), up_o (by omega), up_o (by omega), up_o (by omega)]
      obtain ⟨t1, t2⟩ := ht s' _ e2 hn9 e0
      refine ⟨_, ?_, t2, by rw [bI_2, e3]; rfl, by rw [bI_2, e3]; rfl, by rw [bI_2, e3]; rfl, Or.inl (by rw [bI_2, e3]; rfl)⟩
      rw [← t1]
      simp [x123_56, x123_57, x123_60n, x123_60r, x123_63, x123_64, x123_65, x123_68, x123_69, x123_70, x123_73, x123_74, x123_77, x123_80, x123_81, bst_T0, bst_T, bst_N, bst_I0, bst_I, bst_R0, bst_R, bst_B, bst_X, bst_S, bst_A, bst_sI, bst_sI0, bst_sC, bst_sY, bst_sE, bI_s, bI_o, bI_2, bI_bI, bC_1, bY_1, bE_1, bT, bN, bR, rf_ref, rf_va, rf_null, c1_int, c1_ref, c1_UV, rvo_n, rvo_r, c1_null, c1_va, up_s, up_o, va_rf_some, va_rf_none, litA, litB, litM, nI_add, okZ_0, okZ_1, okZ_zb, zb_0, gB_add, inb_lit, cl_lit, Nat.lt_irrefl, ↓reduceIte, if_true, if_false, RP_v, RP_n, hb, a1, a6, z, e1]
    · rw [if_neg z]
      obtain ⟨t1, t2⟩ := ht _ _ h2 (by rw [up_o (by omega), hR.n9]; exact hn40) (up_o (by omega))
      refine ⟨_, ?_, t2, rfl, rfl, rfl, Or.inr rfl⟩
      rw [← t1]
      simp [x123_56, x123_57, x123_60n, x123_60r, x123_63, x123_64, x123_65, x123_68, x123_69, x123_70, x123_73, x123_74, x123_77, x123_80, x123_81, bst_T0, bst_T, bst_N, bst_I0, bst_I, bst_R0, bst_R, bst_B, bst_X, bst_S, bst_A, bst_sI, bst_sI0, bst_sC, bst_sY, bst_sE, bI_s, bI_o, bI_2, bI_bI, bC_1, bY_1, bE_1, bT, bN, bR, rf_ref, rf_va, rf_null, c1_int, c1_ref, c1_UV, rvo_n, rvo_r, c1_null, c1_va, up_s, up_o, va_rf_some, va_rf_none, litA, litB, litM, nI_add, okZ_0, okZ_1, okZ_zb, zb_0, gB_add, inb_lit, cl_lit, Nat.lt_irrefl, ↓reduceIte, if_true, if_false, RP_v, RP_n, hb, a1, a6, z]
theorem s_tickC (hC : CW c w K A) (h22 : C22 G) (hL : CLM G) (hR : RJ r K A) (h : BS G b s c w r K A m) (hN : gN G s.2.2.2.2 < 2 ^ 31) :
    ∃ f s' m', XP PP (d + 11) 123 0 [.ref b] [] (bst G b s) = some (.inl (none), bst (sRr G s.2.2.2.2 f) b s') ∧ BS (sRr G s.2.2.2.2 f) b s' c w (tkR c w K A r) K A m' ∧ s'.2.1 = s.2.1 ∧ s'.2.2.1 = s.2.2.1 ∧ s'.2.2.2.2 = s.2.2.2.2 ∧ (gB G ≤ s.2.2.2.2 ∨ f = gR G s.2.2.2.2) ∧ ∀ q, RS (sRr G s.2.2.2.2 f) s' m' q → RS G s m q := by
  have hK := hC.K5
  have hA := hC.A8
  obtain ⟨n, hn⟩ : ∃ n, n = cl (r 9) := ⟨_, rfl⟩
  have hRI : RI r K A n := by rw [hn]; exact hR
  have q1 : RI (tk1 c w r (fun _ => 0) K A) K A n := by
    unfold tk1
    split
    · exact RI_or hK hA hRI (tlF_in hK hRI.2.1.1) (tlF_sur hK hRI.2.1.2)
    · exact hRI
  have q2 : RI (tk2 c (tk1 c w r (fun _ => 0) K A) (r 0) A) K A n := by
    unfold tk2
    split
    · exact RI_ps hK hA q1
    · exact q1
  have q3 : RI (tk3 (tk2 c (tk1 c w r (fun _ => 0) K A) (r 0) A) K n) K A n := by
    unfold tk3
    split
    · rename_i z
      exact RI_nx hK hA q2 z
    · exact q2
  have t1 : tk1 c w r (fun _ => 0) K A 0 = r 0 := by
    unfold tk1
    split
    · unfold orF
      rw [up_o (by decide), up_o (by decide)]
      exact if_neg (by omega)
    · rfl
  have t2 : tk2 c (tk1 c w r (fun _ => 0) K A) (r 0) A 0 = r 0 := by
    unfold tk2
    split
    · unfold psF
      rw [up_o (by decide), up_o (by decide)]
      split
      · rw [up_o (by omega)]; exact t1
      · exact t1
    · exact t1
  have t3 : tk3 (tk2 c (tk1 c w r (fun _ => 0) K A) (r 0) A) K n 0 = r 0 := by
    unfold tk3
    split
    · rw [nxF_o (by decide)]; exact t2
    · exact t2
  obtain ⟨s1, e1, f1, g1⟩ := s_tk1 (d := d) hC h22 hR h
  obtain ⟨s2, e2, f2, g2⟩ := s_tk2 (d := d) hC q1.J f1 t1
  have hg2 : s2.2 = s.2 := g2.trans g1
  obtain ⟨f, s3, m', e3, f3, g3, g3', g3'', g3f, g3q⟩ := s_tk3 (d := d) hC hL q2 f2 (by rw [hg2]; exact hN)
  rw [hg2] at e3 f3 g3 g3' g3'' g3f g3q
  obtain ⟨s4, e4, f4, g4, g4', g4'', g4q⟩ := s_tk4 (d := d) hC q3 f3
  refine ⟨f, s4, m', (e1.trans (e2.trans (e3.trans e4))), ?_, g4.trans g3, g4'.trans g3', g4''.trans g3'', g3f, fun q hq => (g3q q ?_).of hg2⟩
  rotate_left
  · rcases hq with z | z
    · rcases g4q with y | y
      · rw [y] at z; cases z
      · exact Or.inl (y.symm.trans z)
    · right; rw [← g4'']; exact z
  unfold tkR tickF
  rw [← hn]
  rw [t3] at f4
  exact f4
theorem s_runC {x : Nat} (hx : x ≤ 1000000) (hC : CW c w K A) (h22 : C22 G) (hL : CLM G) (hR : RJ r K A) (h : BS G b s c w r K A m) (hN : gN G s.2.2.2.2 < 2 ^ 31) :
    ∃ f s' m', XP PP (d + 12) 134 0 [.ref b, .int (nI x), UV, UV] [] (bst G b s) = some (.inl (some (.int (itR c w K A x r 7 - r 7))), bst (sRr G s.2.2.2.2 f) b s') ∧ BS (sRr G s.2.2.2.2 f) b s' c w (itR c w K A x r) K A m' ∧ s'.2.1 = s.2.1 ∧ s'.2.2.1 = s.2.2.1 ∧ s'.2.2.2.2 = s.2.2.2.2 ∧ (gB G ≤ s.2.2.2.2 ∨ f = gR G s.2.2.2.2) ∧ ∀ q, RS (sRr G s.2.2.2.2 f) s' m' q → RS G s m q := by
  have hK := hC.K5
  have hA := hC.A8
  have i21 : s.1 0 21 = r 7 := h.2.2.2.2.1 0 21 7 rfl
  have hl := XP_forY (P := PP) (d := d + 12) (y := 134) (pc := 7) x (fun j (e : (Nat → Option Nat) × Bs × Nat) => BS (sRr G s.2.2.2.2 e.1) b e.2.1 c w (itR c w K A j r) K A e.2.2 ∧ e.2.1.2.1 = s.2.1 ∧ e.2.1.2.2.1 = s.2.2.1 ∧ e.2.1.2.2.2.2 = s.2.2.2.2 ∧ (gB G ≤ s.2.2.2.2 ∨ e.1 = gR G s.2.2.2.2) ∧ ∀ q, RS (sRr G s.2.2.2.2 e.1) e.2.1 e.2.2 q → RS G s m q)
    (fun j _ => [.ref b, .int (nI x), .int (r 7), .int (nI j)]) (fun j e => bst (sRr G s.2.2.2.2 e.1) b e.2.1)
    (X := fun Z => ∃ f s' m', Z = some (.inl (some (.int (itR c w K A x r 7 - r 7))), bst (sRr G s.2.2.2.2 f) b s') ∧ BS (sRr G s.2.2.2.2 f) b s' c w (itR c w K A x r) K A m' ∧ s'.2.1 = s.2.1 ∧ s'.2.2.1 = s.2.2.1 ∧ s'.2.2.2.2 = s.2.2.2.2 ∧ (gB G ≤ s.2.2.2.2 ∨ f = gR G s.2.2.2.2) ∧ ∀ q, RS (sRr G s.2.2.2.2 f) s' m' q → RS G s m q)
    (by
      intro j hj e ⟨he, he1, he2, he3, he4, he5⟩
      have e1 : ¬ nI x ≤ nI j := nI_ge hj (by omega)
      obtain ⟨f, s', m', a1, a2, a3, a4, a5, a6, a7⟩ := s_tickC (d := d) (G := sRr G s.2.2.2.2 e.1) hC h22 hL (RJ_it hK hA hR) he (by rw [he3]; exact hN)
      rw [he3, sRr_sRr] at a1 a2
      refine ⟨(f, s', m'), ⟨a2, a3.trans he1, a4.trans he2, a5.trans he3, ?_, fun q hq => he5 q (a7 q (by rw [he3, sRr_sRr]; exact hq))⟩, ?_⟩
      · rw [he3] at a6
        rcases he4 with z | z
        · exact Or.inl z
        · rcases a6 with y | y
          · exact Or.inl y
          · right
            rw [y, z, sRr_id]
      · dsimp only at a1 ⊢
        refine Eq.trans (by first | exact x134_7 | exact x134_7 (rf_ref _) | exact x134_7 rfl) ?_
        simp [x134_0, x134_1, x134_4, x134_5, x134_6, x134_8, x134_9, x134_12, x134_13, x134_16, x134_19, x134_22, x134_23, x134_26, x134_27, x134_28, bst_T0, bst_T, bst_N, bst_I0, bst_I, bst_R0, bst_R, bst_B, bst_X, bst_S, bst_A, bst_sI, bst_sI0, bst_sC, bst_sY, bst_sE, bI_s, bI_o, bI_2, bI_bI, bC_1, bY_1, bE_1, bT, bN, bR, rf_ref, rf_va, rf_null, c1_int, c1_ref, c1_UV, rvo_n, rvo_r, c1_null, c1_va, up_s, up_o, va_rf_some, va_rf_none, litA, litB, litM, nI_add, okZ_0, okZ_1, okZ_zb, zb_0, gB_add, inb_lit, cl_lit, Nat.lt_irrefl, ↓reduceIte, if_true, if_false, RP_v, RP_n, e1, a1, nI_1])
    (by
      intro e ⟨he, he1, he2, he3, he4, he5⟩
      refine ⟨e.1, e.2.1, e.2.2, ?_, he, he1, he2, he3, he4, he5⟩
      have i21' : e.2.1.1 0 21 = itR c w K A x r 7 := he.2.2.2.2.1 0 21 7 rfl
      refine Eq.trans (by first | exact x134_7 | exact x134_7 (rf_ref _) | exact x134_7 rfl) ?_
      simp [x134_0, x134_1, x134_4, x134_5, x134_6, x134_8, x134_9, x134_12, x134_13, x134_16, x134_19, x134_22, x134_23, x134_26, x134_27, x134_28, bst_T0, bst_T, bst_N, bst_I0, bst_I, bst_R0, bst_R, bst_B, bst_X, bst_S, bst_A, bst_sI, bst_sI0, bst_sC, bst_sY, bst_sE, bI_s, bI_o, bI_2, bI_bI, bC_1, bY_1, bE_1, bT, bN, bR, rf_ref, rf_va, rf_null, c1_int, c1_ref, c1_UV, rvo_n, rvo_r, c1_null, c1_va, up_s, up_o, va_rf_some, va_rf_none, litA, litB, litM, nI_add, okZ_0, okZ_1, okZ_zb, zb_0, gB_add, inb_lit, cl_lit, Nat.lt_irrefl, ↓reduceIte, if_true, if_false, RP_v, RP_n, i21'])
    0 (Nat.zero_le _) (gR G s.2.2.2.2, s, m) ⟨by rw [sRr_id]; exact h, rfl, rfl, rfl, Or.inr rfl, fun q hq => by dsimp only at hq; rw [sRr_id] at hq; exact hq⟩
  rw [sRr_id] at hl
  obtain ⟨f, s', m', a1, a2⟩ := hl
  refine ⟨f, s', m', ?_, a2⟩
  rw [← a1]
  simp [x134_0, x134_1, x134_4, x134_5, x134_6, bst_T0, bst_T, bst_N, bst_I0, bst_I, bst_R0, bst_R, bst_B, bst_X, bst_S, bst_A, bst_sI, bst_sI0, bst_sC, bst_sY, bst_sE, bI_s, bI_o, bI_2, bI_bI, bC_1, bY_1, bE_1, bT, bN, bR, rf_ref, rf_va, rf_null, c1_int, c1_ref, c1_UV, rvo_n, rvo_r, c1_null, c1_va, up_s, up_o, va_rf_some, va_rf_none, litA, litB, litM, nI_add, okZ_0, okZ_1, okZ_zb, zb_0, gB_add, inb_lit, cl_lit, Nat.lt_irrefl, ↓reduceIte, if_true, if_false, RP_v, RP_n, i21]
  rfl
end

/-! THE COMPONENT's questions: differences -/
section
variable {d b n x m K A z hn y : Nat} {G : Hp} {s : Bs} {c w r : Rw} {ow : Nat → Nat} {hr : Nat → Rw} {sv : Option Rw}
set_option maxHeartbeats 8000000
set_option maxRecDepth 20000
theorem C22.fr {P : Nat → Prop} {n k : Nat} {G' : Hp} (h : C22 G) (hf : Fr P n k G G') (hb : gB G ≤ gX G) (hP : ∀ a, a < gB G → ¬ P a) : C22 G' := by
  obtain ⟨q1, q2⟩ := h
  have hs := hf.s (a := gA G 22) (by omega) (hP _ q1)
  exact ⟨by rw [hf.A, hf.B]; exact q1, by rw [hf.A]; exact hs.1.trans q2⟩
theorem s_diff0 {t t' : Int32} (hC : CW c w K A) (h : XW ow G x c w K A z b s m r hr hn sv) (hq : ¬ (irB t 0 2 && irB t' 0 2) = true) : XP PP (d + 11) 75 0 [.ref x, .int t, .int t', UV, UV, UV] [] G = thr 24 G := by
  have ck := fun d => s_ckArg (d := d) (G := G) (q := false)
  rw [zb_false] at ck
  by_cases q : irB t 0 2 = true
  · have q2 : irB t' 0 2 = false := by simpa [q] using hq
    simp [x75_0, x75_1, x75_2, x75_3, x75_6, x75_9, x75_10, x75_11, x75_12, x75_15, x75_18, x75_19, x75_22, x75_23, x75_26, x75_27, x75_30, x75_31, x75_34, x75_35, x75_36, x75_37, x75_38, x75_41, x75_44, x75_45, x75_48, x75_49, x75_52, x75_53, x75_54, x75_55, x75_56, x75_59, x75_62, x75_63, x75_64, x75_65, x75_67, x75_69, x75_70, x75_73, x75_76, x75_79, x75_81, x75_82, x75_83, x75_85, x75_87, x75_88, x75_91, x75_94, x75_97, x75_98, x75_101, x75_103, x75_106, x75_107, x75_110, x75_112, x75_115, x75_118, x75_119, x75_122, x75_123, x75_124, x75_127, x75_129, x75_132, x75_133, x75_136, x75_138, x75_141, x75_144, x75_145, x75_148, x75_149, x75_152, x75_155, x75_158, x75_161, x75_164, x75_167, x75_168, rf_ref, rf_va, rf_null, c1_int, c1_ref, c1_UV, rvo_n, rvo_r, c1_null, c1_va, up_s, up_o, va_rf_some, va_rf_none, litA, litB, litM, nI_add, okZ_0, okZ_1, okZ_zb, zb_0, gB_add, inb_lit, cl_lit, Nat.lt_irrefl, ↓reduceIte, if_true, if_false, RP_v, RP_n, s_inRange, q, q2, zb_true, zb_false, ck, RP_thr (show PP.2.2 75 23 24 = none from rfl)]
  · simp [x75_0, x75_1, x75_2, x75_3, x75_6, x75_9, x75_10, x75_11, x75_12, x75_15, x75_18, x75_19, x75_22, x75_23, x75_26, x75_27, x75_30, x75_31, x75_34, x75_35, x75_36, x75_37, x75_38, x75_41, x75_44, x75_45, x75_48, x75_49, x75_52, x75_53, x75_54, x75_55, x75_56, x75_59, x75_62, x75_63, x75_64, x75_65, x75_67, x75_69, x75_70, x75_73, x75_76, x75_79, x75_81, x75_82, x75_83, x75_85, x75_87, x75_88, x75_91, x75_94, x75_97, x75_98, x75_101, x75_103, x75_106, x75_107, x75_110, x75_112, x75_115, x75_118, x75_119, x75_122, x75_123, x75_124, x75_127, x75_129, x75_132, x75_133, x75_136, x75_138, x75_141, x75_144, x75_145, x75_148, x75_149, x75_152, x75_155, x75_158, x75_161, x75_164, x75_167, x75_168, rf_ref, rf_va, rf_null, c1_int, c1_ref, c1_UV, rvo_n, rvo_r, c1_null, c1_va, up_s, up_o, va_rf_some, va_rf_none, litA, litB, litM, nI_add, okZ_0, okZ_1, okZ_zb, zb_0, gB_add, inb_lit, cl_lit, Nat.lt_irrefl, ↓reduceIte, if_true, if_false, RP_v, RP_n, s_inRange, q, zb_false, ck, RP_thr (show PP.2.2 75 23 24 = none from rfl)]
theorem s_diff1 {t t' : Int32} (hC : CW c w K A) (h22 : C22 G) (h : XW ow G x c w K A z b s m r hr hn sv) (ht : irB t 0 2 = true) (ht' : irB t' 0 2 = true) :
    ∃ G' s', XP PP (d + 11) 75 0 [.ref x, .int t, .int t', UV, UV, UV] [] ((G)) = some (.inl (some (.int (nI (prS (dfB (tlF c w r (fun _ => 0) K A t K) (tlF c w r (fun _ => 0) K A t' K)) K K)))), G') ∧ XW ow G' x c w K A z b s' m r hr hn sv ∧ Fr (fun a => ow a = b ∨ a = x + 4 ∨ a = x + 5) 0 0 G G' := by
  have ck := fun d => s_ckArg (d := d) (G := G) (q := true)
  rw [zb_true] at ck
  have h' := h
  have hxb' := h.xb
  obtain ⟨hh, hx, hxb, hBB, hOW, hz, hRJ, hXH⟩ := h; subst hz; obtain ⟨i0, ⟨hgb, hS, hoz, h17, hBI, hTY, hBQ⟩, hLB, hbx, hzx, hcx, htx, hZL⟩ := hBB; have hC5 := hC.K5; have hC8 := hC.A8; have hn40 := hRJ.n40; have tx : gT G x = 1 := hx.2.2.2.2.1; have tb : gT G b = 6 := i0.T (j := 0) (by omega); have rb : ∀ k, gR G b k = bR (gA G) b s 0 k := fun k => i0.R (j := 0) (by omega); have ib : ∀ k, gI G b k = s.1 0 k := fun k => i0.I (j := 0) (by omega); have tj : ∀ j, j < 21 → gT G (b + j) = bT j := fun j hj => i0.T hj; have nj : ∀ j, j < 21 → gN G (b + j) = bN j := fun j hj => (i0 j hj).2.1; have ij : ∀ j k, j < 21 → gI G (b + j) k = s.1 j k := fun j k hj => i0.I hj; have rj : ∀ j k, j < 21 → gR G (b + j) k = bR (gA G) b s j k := fun j k hj => i0.R hj; have hS' := hS; have sK := fun d => s_suClassesG (d := d) hS; have sA := fun d => s_suAskersG (d := d) hS; obtain ⟨zT, zR0, zR1, zR2, zR3, zR4, zR5, zR6, zT1, zT2, zT5, zT6, zT7, zN5, zN6, zN7, zK, zA, zW, zc3, zc4, zc5, zc6, zc7⟩ := hS; have zT' := zT
  obtain ⟨t1, ht1, rfl⟩ := irB_lt (n := 2) (by omega) ht
  obtain ⟨t2, ht2, rfl⟩ := irB_lt (n := 2) (by omega) ht'
  have j1 : inb (nI t1) 3 = true := inb_nI (by omega) (by omega)
  have j2 : (nI t1).toNatClampNeg = t1 := nI_clamp (by omega)
  have j3 : inb (nI t2) 3 = true := inb_nI (by omega) (by omega)
  have j4 : (nI t2).toNatClampNeg = t2 := nI_clamp (by omega)
  have hxT := hx.2.2.2.2.2.2.2.2.2.2.2.2.2.2.2.2.2.2.2.2.2.2.2.2
  obtain ⟨ty1, y1, y2, y3, y4⟩ := hxT t1 (by omega)
  obtain ⟨ty2, e1, e2, e3, e4⟩ := hxT t2 (by omega)
  have hP0 : ∀ a, a < gB G → ¬ (ow a = b ∨ a = x + 4) := fun a ha z => by
    have o := hh.2 a ha
    have := hx.2.1
    have := hOW.1
    rcases z with z | z <;> omega
  obtain ⟨G1, s1, g1, g2, g3, g4, g5⟩ := s_lay (d := d) (v := -1) (j := 4) hC h22 h' (Or.inl rfl) (show t1 < 3 by omega) y3 (inB_f.mpr (Or.inl (by omega)))
  rw [hC.c19] at g5
  have c22' := h22.fr g3 (by omega) hP0
  have hty2 : gT G1 ty2 = 2 + t2 := (g3.s (a := ty2) (by omega) (hP0 _ e2)).1.trans e3
  obtain ⟨G2, s2, k1, k2, k3, k4, k5⟩ := s_lay (d := d) (v := -1) (j := 5) hC c22' g2 (Or.inr rfl) (show t2 < 3 by omega) hty2 (inB_f.mpr (Or.inl (by omega)))
  rw [hC.c19] at k5
  have l4 : ∀ p, p < K → gI G2 (x + 4) p = tlF c w r (fun _ => 0) K A (nI t1) K p := fun p hp => by
    rw [← g5 p hp]
    refine (k3.s (a := x + 4) ?_ ?_).2.2.1 p
    · have := g2.2.1.2.2.1; omega
    · intro z
      have := hx.2.2.2.1 4 (by omega)
      rcases z with z | z
      · exact hxb' (this.symm.trans z)
      · omega
  refine ⟨G2, s2, ?_, k2, (g3.trans k3).mono (fun a' _ z => by
    rcases z with (z | z) | (z | z)
    · exact Or.inl z
    · exact Or.inr (Or.inl z)
    · exact Or.inl z
    · exact Or.inr (Or.inr z)) (by omega) (by omega)⟩
  have bp : ∀ (y : Nat) (T : Rw) (t : Int32), (∀ p, p < K → gI G2 y p = tlF c w r (fun _ => 0) K A t K p) → BP (gI G2 y) K := fun y T t hT => ⟨fun p hp => by rw [hT p hp]; exact tlF_in hC5 hRJ.2.1.1 p hp, fun k hk => by
    obtain ⟨p, hp, e⟩ := tlF_sur (c := c) (w := w) (r := r) (f := fun _ => 0) (A := A) (t := t) hC5 hRJ.2.1.2 k hk
    exact ⟨p, hp, by rw [hT p hp]; exact e⟩⟩
  have b4 := bp (x + 4) (fun _ => 0) _ l4
  have b5 := bp (x + 5) (fun _ => 0) _ k5
  have hx1 := g2.2.1
  have ss2 := fun d => s_setup (d := d) hC k2
  have sK2 := fun d => s_suClassesG (d := d) k2.2.2.2.1.2.1.2.1
  rw [k2.2.2.2.2.2.1] at sK2
  have tz2 : gT G2 s.2.1 = 5 := by rw [← k2.2.2.2.2.2.1]; exact k2.2.2.2.1.2.1.2.1.1
  have hb1 := g2.2.2.1
  have tb1 : gT G1 b = 6 := g2.2.2.2.1.1.T (j := 0) (by omega)
  obtain ⟨-, -, -, -, u1, u2, u3, u4, u5, u6, u7, u8, v1, v2, v3, v4, v5, v6, v7, n1, n3, n4, n5, -⟩ := hx
  obtain ⟨-, -, -, -, a1, a2, a3, a4, a5, a6, a7, a8, aT1, a10, a11, a12, a13, a14, a15, aN1, a17⟩ := hx1
  obtain ⟨-, -, -, -, w1, w2, w3, w4, w5, w6, w7, w8, q1, q2, q3, q4, q5, q6, q7, m1, m3, m4, m5, -⟩ := k2.2.1
  have key : prS (dfB (tlF c w r (fun _ => 0) K A (nI t1) K) (tlF c w r (fun _ => 0) K A (nI t2) K)) K K = prS (opB (gI G2 (x + 4)) (gI G2 (x + 5))) K K := by
    rw [← dfB_op hC5 b4 b5]
    refine prS_lt fun p q hpq hq => ?_
    have f1 : ∀ k, (∃ p, p < K ∧ gI G2 (x + 5) p = k) → plc (gI G2 (x + 5)) k = plc (tlF c w r (fun _ => 0) K A (nI t2) K) k := fun k hk => plc_congr hC5 k5 hk
    unfold dfB
    rw [← l4 p (by omega), ← l4 q hq]
    have mem : ∀ p, p < K → ∃ p', p' < K ∧ gI G2 (x + 5) p' = gI G2 (x + 4) p := fun p hp => by
      obtain ⟨k, hk, e⟩ := vp_in_of (b4.1 p hp) (by omega)
      obtain ⟨p', hp', e'⟩ := b5.2 k hk
      exact ⟨p', hp', e'.trans e.symm⟩
    rw [f1 _ (mem p (by omega)), f1 _ (mem q hq)]
  rw [key]
  generalize hF4 : gI G2 (x + 4) = F4 at b4 key ⊢
  generalize hF5 : gI G2 (x + 5) = F5 at b5 key ⊢
  obtain ⟨pm4, pk4⟩ := b4.pm hC5
  obtain ⟨pm5, pk5⟩ := b5.pm hC5
  have inj : ∀ (F : Rw), (∀ k, k < K → plc F (nI k) < K ∧ cl (F (plc F (nI k))) = k) → ∀ a b, a < K → b < K → plc F (nI a) = plc F (nI b) → a = b := fun F h a b ha hb e => by
    have h1 := (h a ha).2
    have h2 := (h b hb).2
    rw [e] at h1
    omega
  obtain ⟨B, hBd⟩ : ∃ B : Nat → Nat → Bool, B = fun p q => decide (¬ (decide (plc F4 (nI p) < plc F4 (nI q)) = decide (plc F5 (nI p) < plc F5 (nI q)))) := ⟨_, rfl⟩
  have hBo : prS (opB F4 F5) K K = prS B K K := prS_lt fun p q hpq hq => by
    have i4 : ¬ plc F4 (nI p) = plc F4 (nI q) := fun e => by have := inj F4 pk4 p q (by omega) hq e; omega
    have i5 : ¬ plc F5 (nI p) = plc F5 (nI q) := fun e => by have := inj F5 pk5 p q (by omega) hq e; omega
    rw [hBd]
    unfold opB
    dsimp only
    rcases Nat.lt_or_gt_of_ne i4 with z4 | z4 <;> rcases Nat.lt_or_gt_of_ne i5 with z5 | z5 <;> simp [z4, z5, Nat.lt_asymm z4, Nat.lt_asymm z5]
  rw [hBo]
  have sp4 := fun d k (hk : k < K) => s_placeIn (d := d) (G := G2) (y := x + 4) (k := nI k) q4 (by omega) (by omega) (by
    rw [hF4]
    have h1 := (pk4 k hk).1
    exact ⟨plc F4 (nI k), by omega, plc_lt (f := F4) (k := nI k) (by omega)⟩)
  have sp5 := fun d k (hk : k < K) => s_placeIn (d := d) (G := G2) (y := x + 5) (k := nI k) q5 (by omega) (by omega) (by
    rw [hF5]
    have h1 := (pk5 k hk).1
    exact ⟨plc F5 (nI k), by omega, plc_lt (f := F5) (k := nI k) (by omega)⟩)
  rw [hF4] at sp4
  rw [hF5] at sp5
  have hin : ∀ p, p < K → ∀ n0, XP PP (d + 11) 75 85 [.ref x, .int (nI t1), .int (nI t2), .int (nI n0), .int (nI p), .int (nI (p + 1))] [] G2 = XP PP (d + 11) 75 67 [.ref x, .int (nI t1), .int (nI t2), .int (nI (n0 + cnt (fun j => B p (p + 1 + j)) (K - 1 - p))), .int (nI (p + 1)), .int (nI K)] [] G2 := by
    intro p hp n0
    refine XP_for (K - 1 - p) (fun j => [.ref x, .int (nI t1), .int (nI t2), .int (nI (n0 + cnt (fun j => B p (p + 1 + j)) j)), .int (nI p), .int (nI (p + 1 + j))]) (fun _ => G2) ?_ ?_ 0 (Nat.zero_le _)
    · intro j hj
      have e1 : ¬ nI K ≤ nI (p + 1 + j) := nI_ge (by omega) (by omega)
      have s1 := fun d => sp4 d p hp
      have s2 := fun d => sp4 d (p + 1 + j) (by omega)
      have s3 := fun d => sp5 d p hp
      have s4 := fun d => sp5 d (p + 1 + j) (by omega)
      have z1 := (pk4 p hp).1
      have z2 := (pk4 (p + 1 + j) (by omega)).1
      have z3 := (pk5 p hp).1
      have z4 := (pk5 (p + 1 + j) (by omega)).1
      have le4 : (nI (plc F4 (nI (p + 1 + j))) ≤ nI (plc F4 (nI p))) = _ := nI_leN (by omega) (by omega)
      have le5 : (nI (plc F5 (nI (p + 1 + j))) ≤ nI (plc F5 (nI p))) = _ := nI_leN (by omega) (by omega)
      refine (x75_85).trans ?_
      by_cases c4 : plc F4 (nI p) < plc F4 (nI (p + 1 + j)) <;> by_cases c5 : plc F5 (nI p) < plc F5 (nI (p + 1 + j))
      · simp [x75_87, x75_88, x75_91, x75_94, x75_97, x75_98, x75_101, x75_103, x75_106, x75_107, x75_110, x75_112, x75_115, x75_118, x75_119, x75_122, x75_123, x75_124, x75_127, x75_129, x75_132, x75_133, x75_136, x75_138, x75_141, x75_144, x75_145, x75_148, x75_149, x75_152, x75_155, x75_158, x75_161, x75_164, rf_ref, rf_va, rf_null, c1_int, c1_ref, c1_UV, rvo_n, rvo_r, c1_null, c1_va, up_s, up_o, va_rf_some, va_rf_none, litA, litB, litM, nI_add, okZ_0, okZ_1, okZ_zb, zb_0, gB_add, inb_lit, cl_lit, Nat.lt_irrefl, ↓reduceIte, if_true, if_false, RP_v, RP_n, w1, w5, w6, ss2, sK2, tz2, e1, s1, s2, s3, s4, le4, le5, c4, c5, Nat.not_le.mpr c4, Nat.not_le.mpr c5, cnt, hBd, nI_1]
        rfl
      · simp [x75_87, x75_88, x75_91, x75_94, x75_97, x75_98, x75_101, x75_103, x75_106, x75_107, x75_110, x75_112, x75_115, x75_118, x75_119, x75_122, x75_123, x75_124, x75_127, x75_129, x75_132, x75_133, x75_136, x75_138, x75_141, x75_144, x75_145, x75_148, x75_149, x75_152, x75_155, x75_158, x75_161, x75_164, rf_ref, rf_va, rf_null, c1_int, c1_ref, c1_UV, rvo_n, rvo_r, c1_null, c1_va, up_s, up_o, va_rf_some, va_rf_none, litA, litB, litM, nI_add, okZ_0, okZ_1, okZ_zb, zb_0, gB_add, inb_lit, cl_lit, Nat.lt_irrefl, ↓reduceIte, if_true, if_false, RP_v, RP_n, w1, w5, w6, ss2, sK2, tz2, e1, s1, s2, s3, s4, le4, le5, c4, c5, Nat.not_le.mpr c4, Nat.not_lt.mp c5, cnt, hBd, nI_1]
        rfl
      · simp [x75_87, x75_88, x75_91, x75_94, x75_97, x75_98, x75_101, x75_103, x75_106, x75_107, x75_110, x75_112, x75_115, x75_118, x75_119, x75_122, x75_123, x75_124, x75_127, x75_129, x75_132, x75_133, x75_136, x75_138, x75_141, x75_144, x75_145, x75_148, x75_149, x75_152, x75_155, x75_158, x75_161, x75_164, rf_ref, rf_va, rf_null, c1_int, c1_ref, c1_UV, rvo_n, rvo_r, c1_null, c1_va, up_s, up_o, va_rf_some, va_rf_none, litA, litB, litM, nI_add, okZ_0, okZ_1, okZ_zb, zb_0, gB_add, inb_lit, cl_lit, Nat.lt_irrefl, ↓reduceIte, if_true, if_false, RP_v, RP_n, w1, w5, w6, ss2, sK2, tz2, e1, s1, s2, s3, s4, le4, le5, c4, c5, Nat.not_lt.mp c4, Nat.not_le.mpr c5, cnt, hBd, nI_1]
        rfl
      · simp [x75_87, x75_88, x75_91, x75_94, x75_97, x75_98, x75_101, x75_103, x75_106, x75_107, x75_110, x75_112, x75_115, x75_118, x75_119, x75_122, x75_123, x75_124, x75_127, x75_129, x75_132, x75_133, x75_136, x75_138, x75_141, x75_144, x75_145, x75_148, x75_149, x75_152, x75_155, x75_158, x75_161, x75_164, rf_ref, rf_va, rf_null, c1_int, c1_ref, c1_UV, rvo_n, rvo_r, c1_null, c1_va, up_s, up_o, va_rf_some, va_rf_none, litA, litB, litM, nI_add, okZ_0, okZ_1, okZ_zb, zb_0, gB_add, inb_lit, cl_lit, Nat.lt_irrefl, ↓reduceIte, if_true, if_false, RP_v, RP_n, w1, w5, w6, ss2, sK2, tz2, e1, s1, s2, s3, s4, le4, le5, c4, c5, Nat.not_lt.mp c4, Nat.not_lt.mp c5, cnt, hBd, nI_1]
        rfl
    · have e2 : p + 1 + (K - 1 - p) = K := by omega
      have e1 : nI K ≤ nI K := Int32.le_refl _
      refine (x75_85).trans ?_
      simp [x75_87, x75_88, x75_91, x75_94, x75_97, x75_98, x75_101, x75_103, x75_106, x75_107, x75_110, x75_112, x75_115, x75_118, x75_119, x75_122, x75_123, x75_124, x75_127, x75_129, x75_132, x75_133, x75_136, x75_138, x75_141, x75_144, x75_145, x75_148, x75_149, x75_152, x75_155, x75_158, x75_161, x75_164, rf_ref, rf_va, rf_null, c1_int, c1_ref, c1_UV, rvo_n, rvo_r, c1_null, c1_va, up_s, up_o, va_rf_some, va_rf_none, litA, litB, litM, nI_add, okZ_0, okZ_1, okZ_zb, zb_0, gB_add, inb_lit, cl_lit, Nat.lt_irrefl, ↓reduceIte, if_true, if_false, RP_v, RP_n, w1, ss2, sK2, tz2, e1, e2, nI_1]
  have hl := XP_forX (P := PP) (d := d + 11) (y := 75) (pc := 67) K (fun e : Value × Nat => c1 e.1 = true) (fun p e => [.ref x, .int (nI t1), .int (nI t2), .int (nI (prS B K p)), .int (nI p), e.1]) (fun _ => G2) (X := some (.inl (some (.int (nI (prS B K K)))), G2))
    (by
      intro p hp e he
      have e1 : ¬ nI K ≤ nI p := nI_ge hp (by omega)
      refine ⟨(.int (nI K), 0), rfl, ?_⟩
      refine (x75_67).trans ?_
      simp [x75_69, x75_70, x75_73, x75_76, x75_79, x75_81, x75_82, x75_83, rf_ref, rf_va, rf_null, c1_int, c1_ref, c1_UV, rvo_n, rvo_r, c1_null, c1_va, up_s, up_o, va_rf_some, va_rf_none, litA, litB, litM, nI_add, okZ_0, okZ_1, okZ_zb, zb_0, gB_add, inb_lit, cl_lit, Nat.lt_irrefl, ↓reduceIte, if_true, if_false, RP_v, RP_n, w1, ss2, sK2, tz2, e1, he, nI_1, hin p hp, prS])
    (by
      intro e he
      have e1 : nI K ≤ nI K := Int32.le_refl _
      refine (x75_67).trans ?_
      simp [x75_69, x75_70, x75_73, x75_76, x75_79, x75_81, x75_82, x75_83, x75_167, x75_168, rf_ref, rf_va, rf_null, c1_int, c1_ref, c1_UV, rvo_n, rvo_r, c1_null, c1_va, up_s, up_o, va_rf_some, va_rf_none, litA, litB, litM, nI_add, okZ_0, okZ_1, okZ_zb, zb_0, gB_add, inb_lit, cl_lit, Nat.lt_irrefl, ↓reduceIte, if_true, if_false, RP_v, RP_n, w1, ss2, sK2, tz2, e1]) 0 (Nat.zero_le _) (UV, 0) rfl
  have z1 : nI 0 = 0 := rfl
  have z2 : prS B K 0 = 0 := rfl
  rw [z2, z1] at hl
  have g0 : 110 ≤ gT G (x + 1) := by rw [v1]; decide
  have g01 : 110 ≤ gT G1 (x + 1) := by rw [aT1]; decide
  have s11 := g3.s (a := x + 1) (by have := h'.2.1.2.2.1; omega) (fun z => by
    have := h'.2.1.2.2.2.1 1 (by omega)
    rcases z with z | z
    · exact hxb' (this.symm.trans z)
    · omega)
  have ey : gR G1 (x + 1) t2 = some ty2 := (s11.2.2.2.2 t2).trans e1
  rw [← hl]
  simp [x75_0, x75_1, x75_2, x75_3, x75_6, x75_9, x75_10, x75_11, x75_12, x75_15, x75_18, x75_19, x75_22, x75_23, x75_26, x75_27, x75_30, x75_31, x75_34, x75_35, x75_36, x75_37, x75_38, x75_41, x75_44, x75_45, x75_48, x75_49, x75_52, x75_53, x75_54, x75_55, x75_56, x75_59, x75_62, x75_63, x75_64, x75_65, bst_T0, bst_T, bst_N, bst_I0, bst_I, bst_R0, bst_R, bst_B, bst_X, bst_S, bst_A, bst_sI, bst_sI0, bst_sC, bst_sY, bst_sE, bI_s, bI_o, bI_2, bI_bI, bC_1, bY_1, bE_1, bT, bN, bR, rf_ref, rf_va, rf_null, c1_int, c1_ref, c1_UV, rvo_n, rvo_r, c1_null, c1_va, up_s, up_o, va_rf_some, va_rf_none, litA, litB, litM, nI_add, okZ_0, okZ_1, okZ_zb, zb_0, gB_add, inb_lit, cl_lit, Nat.lt_irrefl, ↓reduceIte, if_true, if_false, RP_v, RP_n, tx, hxb, tb, rb, ib, tj, nj, ij, rj, sK, sA, zT, zR0, zR1, zR2, zR3, zR4, zR5, zR6, zT1, zT2, zT5, zT6, zT7, zN5, zN6, zN7, zc3, zc4, zc5, zc6, zc7, s_inRange, ht, ht', zb_true, ck, u2, u5, g0, n1, j1, j2, y1, g1, a1, a2, hb1, tb1, g01, aN1, j3, j4, ey, a6, k1]
end

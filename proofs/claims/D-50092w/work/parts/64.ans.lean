/-! the component: an answer -/
theorem BIr.of_r {s : Bs} {r r' : Rw} {K A : Nat} (hK : K ≤ 5) (hA : A ≤ 8) (h : BIr s r K A) (e : ∀ x, x < 118 → ¬ x = 8 → ¬ x = 9 → r' x = r x) (e2 : ∀ x, 358 ≤ x → r' x = r x) : BIr s r' K A := by
  intro i q y hq
  have := pos_rng hK hA hq
  rcases this with z | z | z
  · rw [e y (by omega) (by omega) (by omega)]; exact h i q y hq
  · rw [e y (by omega) (by omega) (by omega)]; exact h i q y hq
  · rw [e2 y (by omega)]; exact h i q y hq
theorem tcF_lo {r : Rw} {n i x : Nat} (hx : x < 118 ∨ 358 ≤ x) (h9 : ¬ x = 9) (hi : i < n) (hn : n ≤ 40) : toF r n i x = r x := by
  unfold toF va_cpy
  rw [if_neg (by omega), up_o h9]
theorem tcF_9 {r : Rw} {n i : Nat} : toF r n i 9 = nI (n - 1) := by
  unfold toF va_cpy
  rw [if_neg (by omega), up_s]
theorem tcF_rq {r : Rw} {n i k j : Nat} (hk : k < n - 1) (hj : j < 6) (hi : i < n) : toF r n i (118 + 6 * k + j) = r (118 + 6 * skp i k + j) := by
  unfold toF va_cpy skp
  by_cases q : k < i
  · rw [if_neg (by omega), if_pos q, up_o (by omega)]
  · rw [if_pos (by omega), if_neg q, up_o (by omega)]
    congr 1; omega
theorem RQ.to {G : Hp} {q n i k : Nat} {r : Rw} (h : RQ G q r (skp i k)) (hk : k < n - 1) (hi : i < n) : RQ G q (toF r n i) k := by
  unfold RQ at h ⊢
  rw [tcF_rq (j := 1) hk (by omega) hi, tcF_rq (j := 2) hk (by omega) hi, tcF_rq (j := 3) hk (by omega) hi, tcF_rq (j := 5) hk (by omega) hi]
  have := tcF_rq (r := r) hk (show 0 < 6 by omega) hi
  rw [Nat.add_zero, Nat.add_zero] at this
  rw [this]
  exact h
section
variable {d b m : Nat} {G : Hp} {s : Bs} {c w r : Rw} {K A n : Nat}
set_option maxHeartbeats 4000000
set_option maxRecDepth 20000
theorem s_answerC {i q : Nat} (hC : CW c w K A) (hR : RI r K A n) (h : BS G b s c w r K A m) (h0 : s.2.2.2.1 = some q) (hi : i < n) (h8 : r (118 + 6 * i) = r 8) (hn8 : ¬ r 8 = -1) :
    ∃ s', XP PP d 131 0 [.ref b, UV, UV, UV] [] (bst G b s) = some (.inl (none), bst G b s') ∧ BS G b s' c w (anF r n i) K A m ∧ s'.2 = (bC s none).2 := by
  have h' := h
  obtain ⟨hb, hS, hz, h3, hI, hT, hQ⟩ := h
  have hK := hC.K5
  have hA := hC.A8
  have hn := hR.n9
  have hn40 : n ≤ 40 := hR.2.2.2.2.2.1.1
  rw [hn] at hQ
  have hQ' := hQ
  obtain ⟨b1, b2, b3, b4, b5, b6, b7⟩ := hQ'
  rcases b7 with ⟨z1, -⟩ | ⟨q', i', a1, a2, a3, a4, a5, a6, a7, a8⟩
  · rw [h0] at z1; cases z1
  rw [h0] at a1; cases a1
  have : i' = i := hR.serI a2 hi (by rw [a3, h8])
  subst this
  obtain ⟨ha0, hk0, l, hl1, hl2, el⟩ := hR.2.2.2.2.2.1.2.2.1 i' hi
  obtain ⟨a, ha, ea⟩ := vp_in_of ha0 (by omega)
  obtain ⟨k, hk, ek⟩ := vp_in_of hk0 (by omega)
  obtain ⟨e7, he7, ee7⟩ : ∃ e7, e7 ≤ 9999 ∧ r 7 = nI e7 := by
    obtain ⟨-, -, -, -, -, ⟨-, -, -, -, b', e', s', y1, y2, y3, y4, -⟩, -⟩ := hR
    exact ⟨e', by omega, y4⟩
  have p1 : pos K A 1 a = some (20 + a) := by unfold pos; rw [if_neg (by omega), if_pos (by omega), if_pos (by omega)]
  have p2 : pos K A 2 a = some (28 + a) := by unfold pos; rw [if_neg (by omega), if_pos (by omega), if_pos (by omega)]
  have p5 : pos K A 5 a = some (52 + a) := by unfold pos; rw [if_neg (by omega), if_pos (by omega), if_pos (by omega)]
  have p6 : pos K A 6 a = some (60 + a) := by unfold pos; rw [if_neg (by omega), if_pos (by omega), if_pos (by omega)]
  have p10 : pos K A 10 k = some (68 + k) := by unfold pos; rw [if_neg (by omega), if_neg (by omega), if_neg (by omega), if_neg (by omega), if_neg (by omega), if_pos rfl, if_pos (by omega)]
  have p11 : pos K A 11 k = some (73 + k) := by unfold pos; rw [if_neg (by omega), if_neg (by omega), if_neg (by omega), if_neg (by omega), if_neg (by omega), if_neg (by omega), if_pos rfl, if_pos (by omega)]
  have p12 : ∀ x, x < 360 → pos K A 12 x = some (358 + x) := fun x hx => by unfold pos; rw [if_neg (by omega), if_neg (by omega), if_neg (by omega), if_neg (by omega), if_neg (by omega), if_neg (by omega), if_neg (by omega), if_pos rfl, if_pos hx]
  have p21 : pos K A 0 21 = some 7 := rfl
  have r1 : s.1 1 a = r (20 + a) := hI _ _ _ p1
  have r2 : s.1 2 a = r (28 + a) := hI _ _ _ p2
  have r5 : s.1 5 a = r (52 + a) := hI _ _ _ p5
  have r6 : s.1 6 a = r (60 + a) := hI _ _ _ p6
  have r10 : s.1 10 k = r (68 + k) := hI _ _ _ p10
  have r11 : s.1 11 k = r (73 + k) := hI _ _ _ p11
  have r21 : s.1 0 21 = nI e7 := (hI _ _ _ p21).trans ee7
  have r18 : s.1 0 18 = r 0 := hI 0 18 0 rfl
  have hca : cl (r (118 + 6 * i' + 1)) = a := by rw [ea]; exact nI_clamp (by omega)
  have hck : cl (r (118 + 6 * i' + 2)) = k := by rw [ek]; exact nI_clamp (by omega)
  have hc7 : cl (r 7) = e7 := by rw [ee7]; exact nI_clamp (by omega)
  obtain ⟨z, hz'⟩ : ∃ z, z = (if r (118 + 6 * i' + 3) < r (28 + a) then r (118 + 6 * i' + 3) else r (28 + a)) := ⟨_, rfl⟩
  obtain ⟨C', hC'⟩ : ∃ C', C' = (if 999 < r (20 + a) + r (118 + 6 * i' + 3) - z then 999 else r (20 + a) + r (118 + 6 * i' + 3) - z) := ⟨_, rfl⟩
  obtain ⟨at_, hat⟩ : ∃ at_, at_ = 6 * (e7 % 60) := ⟨_, rfl⟩
  have hat6 : at_ + 5 < 360 := by omega
  -- the row
  have hrow : anF r n i' = toF (va_up (va_up (va_up (va_up (va_up (va_up (va_up (va_up (va_up (va_up (va_up (va_up (va_up (va_up r (28 + a) (r (28 + a) - z)) (20 + a) C') (52 + a) (r (52 + a) + 1)) (60 + a) (r (60 + a) + r (118 + 6 * i' + 3))) (68 + k) (r (68 + k) + 1)) (73 + k) (r (73 + k) + r 0 - r (118 + 6 * i' + 5)))
      (358 + at_) (r (118 + 6 * i'))) (358 + (at_ + 1)) (nI a)) (358 + (at_ + 2)) (nI k)) (358 + (at_ + 3)) (r (118 + 6 * i' + 5))) (358 + (at_ + 4)) (r 0)) (358 + (at_ + 5)) z) 7 (r 7 + 1)) 8 (-1)) n i' := by
    unfold anF anW
    rw [hca, hck, hc7]
    dsimp only
    rw [← hz', ← hC', ← hat]
    rfl
  have hI2 := ((((((((((((hI.up (v := r (28 + a) - z) hK hA p2).up (v := C') hK hA p1).up (v := r (52 + a) + 1) hK hA p5).up (v := r (60 + a) + r (118 + 6 * i' + 3)) hK hA p6).up (v := r (68 + k) + 1) hK hA p10).up (v := r (73 + k) + r 0 - r (118 + 6 * i' + 5)) hK hA p11).up (v := r (118 + 6 * i')) hK hA (p12 at_ (by omega))).up (v := nI a) hK hA (p12 (at_ + 1) (by omega))).up (v := nI k) hK hA (p12 (at_ + 2) (by omega))).up (v := r (118 + 6 * i' + 5)) hK hA (p12 (at_ + 3) (by omega))).up (v := r 0) hK hA (p12 (at_ + 4) (by omega))).up (v := z) hK hA (p12 (at_ + 5) (by omega))).up (v := r 7 + 1) hK hA p21
  obtain ⟨R1, hR1⟩ : ∃ R1, R1 = va_up (va_up (va_up (va_up (va_up (va_up (va_up (va_up (va_up (va_up (va_up (va_up (va_up r (28 + a) (r (28 + a) - z)) (20 + a) C') (52 + a) (r (52 + a) + 1)) (60 + a) (r (60 + a) + r (118 + 6 * i' + 3))) (68 + k) (r (68 + k) + 1)) (73 + k) (r (73 + k) + r 0 - r (118 + 6 * i' + 5)))
      (358 + at_) (r (118 + 6 * i'))) (358 + (at_ + 1)) (nI a)) (358 + (at_ + 2)) (nI k)) (358 + (at_ + 3)) (r (118 + 6 * i' + 5))) (358 + (at_ + 4)) (r 0)) (358 + (at_ + 5)) z) 7 (r 7 + 1) := ⟨_, rfl⟩
  rw [← hR1] at hrow hI2
  have hR1o : ∀ x, x = 1 ∨ (118 ≤ x ∧ x < 358) → R1 x = r x := fun x hx => by
    rw [hR1, up_o (by omega), up_o (by omega), up_o (by omega), up_o (by omega), up_o (by omega), up_o (by omega), up_o (by omega), up_o (by omega), up_o (by omega), up_o (by omega), up_o (by omega), up_o (by omega), up_o (by omega)]
  simp (disch := decide) only [bI_s, bI_bI, bI_o] at hI2
  obtain ⟨s1, hs1⟩ : ∃ s1, s1 = bI (bI (bI (bI (bI (bI (bI (bI s 2 (va_up (s.1 2) a (r (28 + a) - z))) 1 (va_up (s.1 1) a C')) 5 (va_up (s.1 5) a (r (52 + a) + 1))) 6 (va_up (s.1 6) a (r (60 + a) + r (118 + 6 * i' + 3)))) 10 (va_up (s.1 10) k (r (68 + k) + 1))) 11 (va_up (s.1 11) k (r (73 + k) + r 0 - r (118 + 6 * i' + 5))))
      12 (va_up (va_up (va_up (va_up (va_up (va_up (s.1 12) at_ (r (118 + 6 * i'))) (at_ + 1) (nI a)) (at_ + 2) (nI k)) (at_ + 3) (r (118 + 6 * i' + 5))) (at_ + 4) (r 0)) (at_ + 5) z)) 0 (va_up (s.1 0) 21 (r 7 + 1)) := ⟨_, rfl⟩
  rw [← hs1] at hI2
  have hs2 : s1.2 = s.2 := by rw [hs1]; rfl
  have hs13 : s1.1 13 = s.1 13 := by rw [hs1]; simp [bI_o]
  have hs17 : s1.1 17 = s.1 17 := by rw [hs1]; simp [bI_o]
  refine ⟨bC s1 none, ?_, ⟨hb, ?_, ?_, ?_, ?_, ?_, ?_⟩, ?_⟩
  · have i1 : inb (nI a) 8 = true := inb_nI (by omega) (by omega)
    have i2 : (nI a).toNatClampNeg = a := nI_clamp (by omega)
    have i3 : inb (nI k) 5 = true := inb_nI (by omega) (by omega)
    have i4 : (nI k).toNatClampNeg = k := nI_clamp (by omega)
    have i5 : nI e7 - nI e7 / 60 * 60 = nI (e7 % 60) := pk_rem (d := 60) (by omega) (by omega) (by omega)
    have j : ∀ x, x < 360 → inb (nI x) 360 = true ∧ (nI x).toNatClampNeg = x := fun x hx => ⟨inb_nI (by omega) (by omega), nI_clamp (by omega)⟩
    have t1 := bst_Tr (G := G) (s := s) a5
    obtain ⟨g0, g1, g2, g3, g4, g5⟩ := a6
    have m1 := m_min (x := r (28 + a)) (y := r (118 + 6 * i' + 3))
    rw [← hz'] at m1
    have m2 := m_min (x := 999) (y := r (20 + a) + r (118 + 6 * i' + 3) - z)
    rw [← hC'] at m2
    have m3 : r (73 + k) + (r 0 - r (118 + 6 * i' + 5)) = r (73 + k) + r 0 - r (118 + 6 * i' + 5) := by rw [Int32.sub_eq_add_neg, Int32.sub_eq_add_neg, Int32.add_assoc]
    have m0 : (if r (28 + a) < r (118 + 6 * i' + 3) then r (28 + a) else r (118 + 6 * i' + 3)) = z := by rw [hz']; exact m_min
    have m4 : (7 : Nat) = 7 := rfl
    have hat' : 6 * (e7 % 60) = at_ := hat.symm
    rw [hs1, ee7]
    simp [x131_0, x131_1, x131_4, x131_7, x131_8, x131_9, x131_12, x131_15, x131_16, x131_19, x131_20, x131_21, x131_24, x131_25, x131_26, x131_29, x131_30, x131_31, x131_32, x131_33, x131_34, x131_35, x131_36, x131_39, x131_40, x131_43, x131_44, x131_47, x131_48, x131_49, x131_50, x131_53, x131_56, x131_57, x131_58, x131_59, x131_62, x131_63, x131_64, x131_67, x131_68, x131_69, x131_70, x131_71, x131_72, x131_73, x131_74, x131_77, x131_78, x131_79, x131_80, x131_81, x131_84, x131_87, x131_88, x131_89, x131_90, x131_93, x131_94, x131_97, x131_100, x131_101, x131_102, x131_103, x131_104, x131_105, x131_106, x131_109, x131_110, x131_113, x131_116, x131_117, x131_118, x131_119, x131_122, x131_123, x131_126, x131_129, x131_130, x131_131, x131_132, x131_134, x131_135, x131_138, x131_140, x131_141, x131_142, x131_143, x131_144, x131_147, x131_148, x131_149, x131_152, x131_155, x131_156, x131_157, x131_160, x131_161, x131_162, x131_163, x131_164, x131_165, x131_166, x131_169, x131_170, x131_171, x131_172, x131_173, x131_176, x131_179, x131_180, x131_181, x131_184, x131_185, x131_186, x131_187, x131_188, x131_191, x131_194, x131_195, x131_196, x131_199, x131_200, x131_201, x131_202, x131_203, x131_206, x131_207, x131_208, x131_211, x131_212, x131_213, x131_214, x131_215, x131_216, x131_217, x131_218, x131_221, x131_222, x131_223, x131_226, x131_227, x131_228, x131_231, bst_T0, bst_T, bst_N, bst_I0, bst_I, bst_R0, bst_R, bst_B, bst_X, bst_S, bst_A, bst_sI, bst_sI0, bst_sC, bst_sY, bst_sE, bI_s, bI_o, bI_2, bI_bI, bC_1, bY_1, bE_1, bT, bN, bR, rf_ref, rf_va, rf_null, c1_int, c1_ref, c1_UV, rvo_n, rvo_r, c1_null, c1_va, up_s, up_o, va_rf_some, va_rf_none, litA, litB, litM, nI_add, okZ_0, okZ_1, okZ_zb, zb_0, gB_add, inb_lit, cl_lit, Nat.lt_irrefl, ↓reduceIte, if_true, if_false, RP_v, RP_n, hb, h0, bst_Tr a5, bst_Ir a5, g0, g1, g2, g3, g4, g5, ea, ek, i1, i2, i3, i4, i5, r1, r2, r5, r6, r10, r11, r21, r18, m0, m2, m3, hat', j at_ (by omega), j (at_ + 1) (by omega), j (at_ + 2) (by omega), j (at_ + 3) (by omega), j (at_ + 4) (by omega), j (at_ + 5) (by omega)]
  · show SU G s1.2.1 c w K A
    rw [hs2]; exact hS
  · show oB b s1.2.1
    rw [hs2]; exact hz
  · show s1.1 17 3 = _
    rw [hs17]; exact h3
  · rw [hrow]
    refine BIr.of_r hK hA (r := va_up R1 8 (-1)) ?_ (fun x hx h8' h9 => ?_) (fun x hx => ?_)
    · exact BIr.up_r hK hA (BIr.of_s hI2 rfl) (Or.inr (Or.inl rfl))
    · exact tcF_lo (Or.inl hx) h9 hi hn40
    · exact tcF_lo (Or.inr hx) (by omega) hi hn40
  · show TYo G b s1.2.2.1 _
    rw [hs2]
    unfold TYo at hT ⊢
    rw [hrow, tcF_lo (Or.inl (by omega)) (by decide) hi hn40, up_o (by decide), hR1o 1 (Or.inl rfl)]
    exact hT
  · have e9 : cl (anF r n i' 9) = m := by rw [hrow, tcF_9, a4, Nat.add_sub_cancel]; exact nI_clamp (by omega)
    rw [e9, hrow]
    unfold BQ
    show gT G s1.2.2.2.2 = 110 ∧ inB b s1.2.2.2.2 = false ∧ m ≤ gN G s1.2.2.2.2 ∧ (0 < m → gB G ≤ s1.2.2.2.2) ∧ s1.1 13 2 = nI m ∧ m ≤ 40 ∧ _
    rw [hs2, hs13]
    refine ⟨b1, b2, b3, b4, b5, b6, Or.inl ⟨rfl, ?_, rfl, fun x hx => ?_⟩⟩
    · rw [tcF_lo (Or.inl (by omega)) (by decide) hi hn40, up_s]
    · obtain ⟨q2, y1, y2, y3⟩ := a8 x hx
      refine ⟨q2, by show gR G s1.2.2.2.2 x = _; rw [hs2]; exact y1, y2, RQ.to ?_ (by omega) hi⟩
      exact y3.of (by unfold skp; split <;> omega) (fun y hy hy2 => by rw [up_o (by omega)]; exact hR1o y (Or.inr ⟨hy, hy2⟩))
  · show (s1.2.1, s1.2.2.1, none, s1.2.2.2.2) = _
    rw [hs2]; rfl
end

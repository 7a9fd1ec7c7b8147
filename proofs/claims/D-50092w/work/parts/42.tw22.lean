/-! the twin: a cast; questions -/
section
variable {d o : Nat} {G : Hp} {u : Mu}
set_option maxHeartbeats 4000000
set_option maxRecDepth 20000
/-- casts: the outcome's row is asker a's ballot -/
def csF (r f : Rw) (K a : Nat) : Rw := va_up (va_up (va_cpy f r 0 (78 + 5 * a) K) (36 + a) 0) 3 1
theorem s_casts {K a : Nat} (hb : gB G ≤ o) (h1 : u.1 0 1 = nI K) (hK : K ≤ 5) (h2 : u.1 4 2 = nI a) (ha : a < 8) : XP PP d 195 0 [.ref o, UV, UV] [] (mst G o u) = some (.inl (some (.int (nI a))), mst G o (uR u 4 (csF (u.1 4) (u.1 10) K a))) := by
  have hl : XP PP d 195 9 [.ref o, .int (nI a), .int 0] [] (mst G o (uR u 4 (va_cpy (u.1 10) (u.1 4) 0 (78 + 5 * a) 0))) = some (.inl (some (.int (nI a))), mst G o (uR u 4 (csF (u.1 4) (u.1 10) K a))) := by
    refine XP_for K (fun p => [.ref o, .int (nI a), .int (nI p)]) (fun p => mst G o (uR u 4 (va_cpy (u.1 10) (u.1 4) 0 (78 + 5 * a) p))) ?_ ?_ 0 (Nat.zero_le _)
    · intro p hp
      have e1 : ¬ nI K ≤ nI p := nI_ge hp (by omega)
      have c1' : inb (nI p) 5 = true := inb_nI (by omega) (by omega)
      have d1 : (nI p).toNatClampNeg = p := nI_clamp (by omega)
      have c2 : inb (nI (78 + 5 * a + p)) 718 = true := inb_nI (by omega) (by omega)
      have d2 : (nI (78 + 5 * a + p)).toNatClampNeg = 78 + 5 * a + p := nI_clamp (by omega)
      refine Eq.trans (by first | exact x195_9 | exact x195_9 (rf_ref _) | exact x195_9 rfl) ?_
      simp [x195_0, x195_1, x195_4, x195_5, x195_6, x195_7, x195_8, x195_10, x195_11, x195_14, x195_17, x195_18, x195_21, x195_23, x195_24, x195_25, x195_26, x195_27, x195_28, x195_29, x195_30, x195_33, x195_34, x195_35, x195_36, x195_39, x195_42, x195_43, x195_46, x195_48, x195_49, x195_50, x195_51, x195_52, x195_53, x195_56, x195_57, x195_58, x195_59, x195_60, rf_ref, c1_int, c1_ref, c1_UV, mst_T0, mst_I0, mst_R0, mst_J0, mst_T, mst_N, mst_I, mst_J, mst_B, mst_sI, mst_sI0, mst_sJ, mst_sJ0, uR_s, uR_o, uR_2, uR_uR, uL_s, uL_o, uL_1, up_s, up_o, mT, mN, mR, va_rf_some, litA, litB, litM, nI_add, okZ_0, okZ_1, okZ_zb, zb_0, gB_add, inb_lit, cl_lit, Nat.lt_irrefl, ↓reduceIte, if_true, if_false, RP_v, RP_n, h1, e1, c1', d1, c2, d2, hb, cpy_d, nI_1]
    · have c3 : inb (nI (36 + a)) 718 = true := inb_nI (by omega) (by omega)
      have d3 : (nI (36 + a)).toNatClampNeg = 36 + a := nI_clamp (by omega)
      refine Eq.trans (by first | exact x195_9 | exact x195_9 (rf_ref _) | exact x195_9 rfl) ?_
      simp [x195_0, x195_1, x195_4, x195_5, x195_6, x195_7, x195_8, x195_10, x195_11, x195_14, x195_17, x195_18, x195_21, x195_23, x195_24, x195_25, x195_26, x195_27, x195_28, x195_29, x195_30, x195_33, x195_34, x195_35, x195_36, x195_39, x195_42, x195_43, x195_46, x195_48, x195_49, x195_50, x195_51, x195_52, x195_53, x195_56, x195_57, x195_58, x195_59, x195_60, rf_ref, c1_int, c1_ref, c1_UV, mst_T0, mst_I0, mst_R0, mst_J0, mst_T, mst_N, mst_I, mst_J, mst_B, mst_sI, mst_sI0, mst_sJ, mst_sJ0, uR_s, uR_o, uR_2, uR_uR, uL_s, uL_o, uL_1, up_s, up_o, mT, mN, mR, va_rf_some, litA, litB, litM, nI_add, okZ_0, okZ_1, okZ_zb, zb_0, gB_add, inb_lit, cl_lit, Nat.lt_irrefl, ↓reduceIte, if_true, if_false, RP_v, RP_n, h1, c3, d3, hb, csF]
  rw [cpy_0, uR_id] at hl
  simp [x195_0, x195_1, x195_4, x195_5, x195_6, x195_7, x195_8, rf_ref, c1_int, c1_ref, c1_UV, mst_T0, mst_I0, mst_R0, mst_J0, mst_T, mst_N, mst_I, mst_J, mst_B, mst_sI, mst_sI0, mst_sJ, mst_sJ0, uR_s, uR_o, uR_2, uR_uR, uL_s, uL_o, uL_1, up_s, up_o, mT, mN, mR, va_rf_some, litA, litB, litM, nI_add, okZ_0, okZ_1, okZ_zb, zb_0, gB_add, inb_lit, cl_lit, Nat.lt_irrefl, ↓reduceIte, if_true, if_false, RP_v, RP_n, h2, hl]
/-- cast -/
theorem s_cast0 {code : Int32} {K : Nat} (hb : gB G ≤ o) (h1 : u.1 0 1 = nI K) (h1K : 1 ≤ K) (hK : K ≤ 5) (h : code < 0 ∨ ibB K code (u.1 10) = false) : ∃ T, XP PP (d + 3) 193 0 [.ref o, .int code] [] (mst G o u) = some (.inl (some (.int 0)), mst G o (uR (uT u 1) 10 T)) := by
  have hu : uR (uT u 1) 10 (u.1 10) = uT u 1 := by
    have := uR_id (u := uT u 1) (j := 10)
    rwa [uT_o (by decide)] at this
  by_cases q : code < 0
  · refine ⟨u.1 10, ?_⟩
    rw [hu]
    simp [x193_0, x193_1, x193_2, x193_5, x193_6, x193_7, x193_10, x193_13, x193_14, x193_17, x193_18, x193_21, x193_24, x193_25, x193_26, x193_27, x193_30, x193_31, x193_32, x193_35, x193_38, rf_ref, c1_int, c1_ref, c1_UV, mst_T0, mst_I0, mst_R0, mst_J0, mst_T, mst_N, mst_I, mst_J, mst_B, mst_sI, mst_sI0, mst_sJ, mst_sJ0, uR_s, uR_o, uR_2, uR_uR, uL_s, uL_o, uL_1, up_s, up_o, mT, mN, mR, va_rf_some, litA, litB, litM, nI_add, okZ_0, okZ_1, okZ_zb, zb_0, gB_add, inb_lit, cl_lit, Nat.lt_irrefl, ↓reduceIte, if_true, if_false, RP_v, RP_n, s_is1, s_is0, s_may1, s_may0, uT_0, uT_o, uT_2, uT_T, q, hb]
  · have q2 := h.resolve_left q
    have sb := fun d => s_isBallot (d := d) (G := G) (o := o) (u := u) (code := code) hb h1 h1K hK
    refine ⟨ibR K code (u.1 10), ?_⟩
    have e : uT (uR u 10 (ibR K code (u.1 10))) 1 = uR (uT u 1) 10 (ibR K code (u.1 10)) := by unfold uT; rw [uR_o (by decide), uc10_0]
    simp [x193_0, x193_1, x193_2, x193_5, x193_6, x193_7, x193_10, x193_13, x193_14, x193_17, x193_18, x193_21, x193_24, x193_25, x193_26, x193_27, x193_30, x193_31, x193_32, x193_35, x193_38, rf_ref, c1_int, c1_ref, c1_UV, mst_T0, mst_I0, mst_R0, mst_J0, mst_T, mst_N, mst_I, mst_J, mst_B, mst_sI, mst_sI0, mst_sJ, mst_sJ0, uR_s, uR_o, uR_2, uR_uR, uL_s, uL_o, uL_1, up_s, up_o, mT, mN, mR, va_rf_some, litA, litB, litM, nI_add, okZ_0, okZ_1, okZ_zb, zb_0, gB_add, inb_lit, cl_lit, Nat.lt_irrefl, ↓reduceIte, if_true, if_false, RP_v, RP_n, s_is1, s_is0, s_may1, s_may0, uT_0, uT_o, uT_2, uT_T, q, Int32.not_lt.mp q, sb, q2, zb_true, zb_false, hb, e]
theorem s_cast {code : Int32} {K A m a : Nat} (hb : gB G ≤ o) (hz : WZ u) (h1 : u.1 0 1 = nI K) (h1K : 1 ≤ K) (hK : K ≤ 5) (h2 : u.1 4 2 = nI a) (ha : a < 8) (hm : u.1 0 17 = nI m) (h8 : m ≤ 8) (h0 : ¬ code < 0) (h : ibB K code (u.1 10) = true) :
    ∃ T, XP PP (d + 3) 193 0 [.ref o, .int code] [] (mst G o u) = some (.inl (some (.int (nI a))), mst G o (chF u m (csF (u.1 4) (ibR K code (u.1 10)) K a) T)) := by
  have sb := fun d => s_isBallot (d := d) (G := G) (o := o) (u := u) (code := code) hb h1 h1K hK
  obtain ⟨f, hf⟩ : ∃ f, f = ibR K code (u.1 10) := ⟨_, rfl⟩
  rw [← hf] at sb ⊢
  have e : uT (uR u 10 f) 0 = uR (uT u 0) 10 f := by unfold uT; rw [uR_o (by decide), uc10_0]
  have st := fun d => s_starts (d := d) (G := G) (o := o) (u := uR (uT u 0) 10 f) hb (fun j a b => by rw [uR_o (by omega), uT_o (by omega)]; exact hz j a b)
  have sc := fun d => s_casts (d := d) (G := G) (o := o) (u := uR (uR (uT u 0) 10 f) 6 (u.1 4)) (K := K) (a := a) hb (by rw [uR_o (by decide), uR_o (by decide), uT_0, up_o (by decide)]; exact h1) hK (by rw [uR_o (by decide), uR_o (by decide), uT_o (by decide)]; exact h2) ha
  have sd := fun d v => ch_done (d := d) (G := G) (o := o) (u := u) (v := v) (m := m) (r := csF (u.1 4) f K a) (T := f) hb hm h8
  refine ⟨f, ?_⟩
  have f4 : (uR (uT u 0) 10 f).1 4 = u.1 4 := by rw [uR_o (by decide), uT_o (by decide)]
  have f4' : (uR (uR (uT u 0) 10 f) 6 (u.1 4)).1 4 = u.1 4 := by rw [uR_o (by decide)]; exact f4
  have f10 : (uR (uR (uT u 0) 10 f) 6 (u.1 4)).1 10 = f := by rw [uR_o (by decide), uR_s]
  rw [f4] at st
  rw [f4', f10, uc6_4] at sc
  simp only [uc1_0, uc4_0, uc4_1, uc5_0, uc5_1, uc5_4, uc6_0, uc6_1, uc6_4, uc6_5, uc7_0, uc7_1, uc7_4, uc7_5, uc7_6, uc8_0, uc8_1, uc8_4, uc8_5, uc8_6, uc8_7, uc9_0, uc9_1, uc9_4, uc9_5, uc9_6, uc9_7, uc9_8, uc10_0, uc10_1, uc10_4, uc10_5, uc10_6, uc10_7, uc10_8, uc10_9, uc11_0, uc11_1, uc11_4, uc11_5, uc11_6, uc11_7, uc11_8, uc11_9, uc11_10, uc12_0, uc12_1, uc12_4, uc12_5, uc12_6, uc12_7, uc12_8, uc12_9, uc12_10, uc12_11, uc13_0, uc13_1, uc13_4, uc13_5, uc13_6, uc13_7, uc13_8, uc13_9, uc13_10, uc13_11, uc13_12, uc14_0, uc14_1, uc14_4, uc14_5, uc14_6, uc14_7, uc14_8, uc14_9, uc14_10, uc14_11, uc14_12, uc14_13, uc17_0, uc17_1, uc17_4, uc17_5, uc17_6, uc17_7, uc17_8, uc17_9, uc17_10, uc17_11, uc17_12, uc17_13, uc17_14] at st sc sd
  simp [x193_0, x193_1, x193_2, x193_5, x193_6, x193_7, x193_10, x193_13, x193_14, x193_17, x193_18, x193_21, x193_24, x193_25, x193_26, x193_27, x193_30, x193_31, x193_32, x193_35, x193_38, rf_ref, c1_int, c1_ref, c1_UV, mst_T0, mst_I0, mst_R0, mst_J0, mst_T, mst_N, mst_I, mst_J, mst_B, mst_sI, mst_sI0, mst_sJ, mst_sJ0, uR_s, uR_o, uR_2, uR_uR, uL_s, uL_o, uL_1, up_s, up_o, mT, mN, mR, va_rf_some, litA, litB, litM, nI_add, okZ_0, okZ_1, okZ_zb, zb_0, gB_add, inb_lit, cl_lit, Nat.lt_irrefl, ↓reduceIte, if_true, if_false, RP_v, RP_n, s_is1, s_is0, s_may1, s_may0, uT_0, uT_o, uT_2, uT_T, uc1_0, uc4_0, uc4_1, uc5_0, uc5_1, uc5_4, uc6_0, uc6_1, uc6_4, uc6_5, uc7_0, uc7_1, uc7_4, uc7_5, uc7_6, uc8_0, uc8_1, uc8_4, uc8_5, uc8_6, uc8_7, uc9_0, uc9_1, uc9_4, uc9_5, uc9_6, uc9_7, uc9_8, uc10_0, uc10_1, uc10_4, uc10_5, uc10_6, uc10_7, uc10_8, uc10_9, uc11_0, uc11_1, uc11_4, uc11_5, uc11_6, uc11_7, uc11_8, uc11_9, uc11_10, uc12_0, uc12_1, uc12_4, uc12_5, uc12_6, uc12_7, uc12_8, uc12_9, uc12_10, uc12_11, uc13_0, uc13_1, uc13_4, uc13_5, uc13_6, uc13_7, uc13_8, uc13_9, uc13_10, uc13_11, uc13_12, uc14_0, uc14_1, uc14_4, uc14_5, uc14_6, uc14_7, uc14_8, uc14_9, uc14_10, uc14_11, uc14_12, uc14_13, uc17_0, uc17_1, uc17_4, uc17_5, uc17_6, uc17_7, uc17_8, uc17_9, uc17_10, uc17_11, uc17_12, uc17_13, uc17_14, h0, Int32.not_lt.mp h0, sb, h, zb_true, zb_false, hb, e, st, sc, sd]
end

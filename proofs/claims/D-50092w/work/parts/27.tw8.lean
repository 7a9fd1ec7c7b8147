/-! the twin: an answer, a tick -/
theorem uR_idw {u : Mu} {j : Nat} {f : Rw} (h : f = u.1 j) : uR u j f = u := by rw [h, uR_id]
section
variable {d o : Nat} {G : Hp} {u : Mu}
set_option maxHeartbeats 4000000
/-- request i, of asker a and class k, is answered -/
def anW (r : Rw) (i a k : Nat) : Rw :=
  let q := 118 + 6 * i
  let z := if r (q + 3) < r (28 + a) then r (q + 3) else r (28 + a)
  let r1 := va_up r (28 + a) (r (28 + a) - z)
  let r2 := va_up r1 (20 + a) (if 999 < r (20 + a) + r (q + 3) - z then 999 else r (20 + a) + r (q + 3) - z)
  let r3 := va_up r2 (52 + a) (r (52 + a) + 1)
  let r4 := va_up r3 (60 + a) (r (60 + a) + r (q + 3))
  let r5 := va_up r4 (68 + k) (r (68 + k) + 1)
  let r6 := va_up r5 (73 + k) (r (73 + k) + r 0 - r (q + 5))
  let at_ := 358 + 6 * (cl (r 7) % 60)
  let r7 := va_up r6 at_ (r q)
  let r8 := va_up r7 (at_ + 1) (nI a)
  let r9 := va_up r8 (at_ + 2) (nI k)
  let ra := va_up r9 (at_ + 3) (r (q + 5))
  let rb := va_up ra (at_ + 4) (r 0)
  let rc := va_up rb (at_ + 5) z
  va_up (va_up rc 7 (r 7 + 1)) 8 (-1)
def anF (r : Rw) (n i : Nat) : Rw := toF (anW r i (cl (r (118 + 6 * i + 1))) (cl (r (118 + 6 * i + 2)))) n i
theorem s_answers {n i : Nat} (hb : gB G ≤ o) (hn : rqs (u.1 4) n) (hi : i < n) (h7 : ¬ u.1 4 7 < 0) : XP PP (d + 1) 184 0 [.ref o, .int (nI i), UV, UV, UV, UV, UV] [] (mst G o u) = some (.inl (none), mst G o (uR u 4 (anF (u.1 4) n i))) := by
  obtain ⟨hn, h9, hq⟩ := hn
  obtain ⟨v1, v2⟩ := hq i hi
  obtain ⟨a, ha, ea⟩ := vp_in_of v1 (by omega)
  obtain ⟨k, hk, ek⟩ := vp_in_of v2 (by omega)
  obtain ⟨m, hm, e7⟩ := nI_of h7
  have hi4 : i < 40 := by omega
  have a1 : inb (nI (20 + a)) 718 = true := inb_nI (by omega) (by omega)
  have b1 : (nI (20 + a)).toNatClampNeg = 20 + a := nI_clamp (by omega)
  have a2 : inb (nI (28 + a)) 718 = true := inb_nI (by omega) (by omega)
  have b2 : (nI (28 + a)).toNatClampNeg = 28 + a := nI_clamp (by omega)
  have a3 : inb (nI (52 + a)) 718 = true := inb_nI (by omega) (by omega)
  have b3 : (nI (52 + a)).toNatClampNeg = 52 + a := nI_clamp (by omega)
  have a4 : inb (nI (60 + a)) 718 = true := inb_nI (by omega) (by omega)
  have b4 : (nI (60 + a)).toNatClampNeg = 60 + a := nI_clamp (by omega)
  have a5 : inb (nI (68 + k)) 718 = true := inb_nI (by omega) (by omega)
  have b5 : (nI (68 + k)).toNatClampNeg = 68 + k := nI_clamp (by omega)
  have a6 : inb (nI (73 + k)) 718 = true := inb_nI (by omega) (by omega)
  have b6 : (nI (73 + k)).toNatClampNeg = 73 + k := nI_clamp (by omega)
  obtain ⟨w, hw⟩ : ∃ w, w = 358 + 6 * (m % 60) := ⟨_, rfl⟩
  have er : (358 : Int32) + 6 * (nI m - nI m / 60 * 60) = nI w := by
    rw [show (60 : Int32) = nI 60 from rfl, pk_rem hm (by omega) (by omega), hw]
    rw [show (358 : Int32) = nI 358 from rfl, show (6 : Int32) = nI 6 from rfl, pk_mul, nI_add]
  have c0 : inb (nI w) 718 = true := inb_nI (by omega) (by omega)
  have d0 : (nI w).toNatClampNeg = w := nI_clamp (by omega)
  have c1 : inb (nI (w + 1)) 718 = true := inb_nI (by omega) (by omega)
  have d1 : (nI (w + 1)).toNatClampNeg = w + 1 := nI_clamp (by omega)
  have c2 : inb (nI (w + 2)) 718 = true := inb_nI (by omega) (by omega)
  have d2 : (nI (w + 2)).toNatClampNeg = w + 2 := nI_clamp (by omega)
  have c3 : inb (nI (w + 3)) 718 = true := inb_nI (by omega) (by omega)
  have d3 : (nI (w + 3)).toNatClampNeg = w + 3 := nI_clamp (by omega)
  have c4 : inb (nI (w + 4)) 718 = true := inb_nI (by omega) (by omega)
  have d4 : (nI (w + 4)).toNatClampNeg = w + 4 := nI_clamp (by omega)
  have c5 : inb (nI (w + 5)) 718 = true := inb_nI (by omega) (by omega)
  have d5 : (nI (w + 5)).toNatClampNeg = w + 5 := nI_clamp (by omega)
  have hcl : cl (nI m) = m := nI_clamp hm
  have hca : cl (nI a) = a := nI_clamp (by omega)
  have hck : cl (nI k) = k := nI_clamp (by omega)
  have goal1 : XP PP (d + 1) 184 0 [.ref o, .int (nI i), UV, UV, UV, UV, UV] [] (mst G o u) = XP PP (d + 1) 184 299 [.ref o, .int (nI i), .int (nI a), .int (nI k), .int (u.1 4 (118 + 6 * i + 3)), .int (if u.1 4 (118 + 6 * i + 3) < u.1 4 (28 + a) then u.1 4 (118 + 6 * i + 3) else u.1 4 (28 + a)), .int (nI w)] [] (mst G o (uR u 4 (anW (u.1 4) i a k))) := by
    simp [x184_0, x184_1, x184_2, x184_3, x184_6, x184_7, x184_8, x184_9, x184_10, x184_13, x184_14, x184_15, x184_16, x184_17, x184_20, x184_22, x184_24, x184_25, x184_28, x184_30, x184_31, x184_32, x184_33, x184_36, x184_38, x184_39, x184_42, x184_44, x184_45, x184_46, x184_47, x184_50, x184_52, x184_53, x184_54, x184_55, x184_57, x184_58, x184_59, x184_60, x184_63, x184_65, x184_66, x184_67, x184_70, x184_71, x184_74, x184_76, x184_77, x184_78, x184_79, x184_81, x184_82, x184_84, x184_85, x184_88, x184_89, x184_90, x184_93, x184_95, x184_96, x184_97, x184_98, x184_101, x184_103, x184_104, x184_105, x184_106, x184_107, x184_108, x184_109, x184_110, x184_113, x184_115, x184_116, x184_117, x184_118, x184_121, x184_123, x184_124, x184_125, x184_126, x184_128, x184_129, x184_130, x184_131, x184_134, x184_136, x184_137, x184_138, x184_139, x184_142, x184_144, x184_145, x184_146, x184_147, x184_148, x184_149, x184_150, x184_151, x184_154, x184_156, x184_157, x184_158, x184_159, x184_162, x184_164, x184_165, x184_166, x184_167, x184_168, x184_171, x184_172, x184_173, x184_174, x184_175, x184_176, x184_177, x184_180, rf_ref, c1_int, c1_ref, c1_UV, mst_T0, mst_I0, mst_R0, mst_J0, mst_T, mst_N, mst_I, mst_J, mst_B, mst_sI, mst_sI0, mst_sJ, mst_sJ0, uR_s, uR_o, uR_2, uR_uR, uL_s, uL_o, uL_1, up_s, up_o, mT, mN, mR, va_rf_some, litA, litB, litM, nI_add, okZ_0, okZ_1, okZ_zb, zb_0, gB_add, inb_lit, cl_lit, Nat.lt_irrefl, ↓reduceIte, if_true, if_false, RP_v, RP_n, s_of0, s_of1, s_of2, s_of3, s_of4, s_of5, hi4, ea, ek, a1, b1, a2, b2, a3, b3, a4, b4, a5, b5, a6, b6, hb, s_lesser]
    simp (disch := omega) only [up_s, up_o, e7]
    simp [x184_181, x184_182, x184_185, x184_187, x184_188, x184_191, x184_193, x184_194, x184_196, x184_197, x184_198, rf_ref, c1_int, c1_ref, c1_UV, mst_T0, mst_I0, mst_R0, mst_J0, mst_T, mst_N, mst_I, mst_J, mst_B, mst_sI, mst_sI0, mst_sJ, mst_sJ0, uR_s, uR_o, uR_2, uR_uR, uL_s, uL_o, uL_1, up_s, up_o, mT, mN, mR, va_rf_some, litA, litB, litM, nI_add, okZ_0, okZ_1, okZ_zb, zb_0, gB_add, inb_lit, cl_lit, Nat.lt_irrefl, ↓reduceIte, if_true, if_false, RP_v, RP_n, a6, b6, hb]
    simp (disch := omega) only [up_s, up_o, e7]
    rw [er]
    simp [x184_199, x184_201, x184_202, x184_205, x184_207, x184_208, x184_209, x184_210, x184_213, x184_214, x184_215, x184_218, x184_220, x184_221, x184_222, x184_223, x184_224, x184_225, x184_228, x184_230, x184_231, x184_232, x184_233, x184_234, x184_235, x184_238, x184_240, x184_241, x184_242, x184_243, x184_244, x184_245, x184_248, x184_249, x184_250, x184_253, x184_255, x184_256, x184_257, x184_258, x184_261, x184_262, x184_263, x184_264, x184_265, x184_268, x184_270, x184_271, x184_272, x184_274, x184_275, x184_276, x184_279, x184_281, x184_282, x184_285, x184_287, x184_288, x184_289, x184_290, x184_291, x184_292, x184_295, x184_297, x184_298, rf_ref, c1_int, c1_ref, c1_UV, mst_T0, mst_I0, mst_R0, mst_J0, mst_T, mst_N, mst_I, mst_J, mst_B, mst_sI, mst_sI0, mst_sJ, mst_sJ0, uR_s, uR_o, uR_2, uR_uR, uL_s, uL_o, uL_1, up_s, up_o, mT, mN, mR, va_rf_some, litA, litB, litM, nI_add, okZ_0, okZ_1, okZ_zb, zb_0, gB_add, inb_lit, cl_lit, Nat.lt_irrefl, ↓reduceIte, if_true, if_false, RP_v, RP_n, s_of0, s_of1, s_of2, s_of3, s_of4, s_of5, hi4, c0, d0, c1, d1, c2, d2, c3, d3, c4, d4, c5, d5, hb]
    simp (disch := omega) only [up_s, up_o, e7]
    unfold anW
    rw [e7, hcl, ← hw]
  have h9' : (uR u 4 (anW (u.1 4) i a k)).1 4 9 = nI n := by
    rw [uR_s]
    unfold anW
    simp (disch := omega) only [up_s, up_o, e7, hcl, ← hw]
    exact h9
  have st := s_takesOut (d := d) (o := o) (G := G) (u := uR u 4 (anW (u.1 4) i a k)) hb h9' hn hi
  rw [goal1]
  unfold anF
  rw [ea, ek, hca, hck]
  simp [x184_299, x184_300, x184_301, x184_304, rf_ref, c1_int, c1_ref, c1_UV, mst_T0, mst_I0, mst_R0, mst_J0, mst_T, mst_N, mst_I, mst_J, mst_B, mst_sI, mst_sI0, mst_sJ, mst_sJ0, uR_s, uR_o, uR_2, uR_uR, uL_s, uL_o, uL_1, up_s, up_o, mT, mN, mR, va_rf_some, litA, litB, litM, nI_add, okZ_0, okZ_1, okZ_zb, zb_0, gB_add, inb_lit, cl_lit, Nat.lt_irrefl, ↓reduceIte, if_true, if_false, RP_v, RP_n, st]
/-- worksOn: request i is in progress -/
def woF (r : Rw) (n i : Nat) : Rw :=
  if r (118 + 6 * i + 4) - 1 = 0 then anF (va_up r (118 + 6 * i + 4) (r (118 + 6 * i + 4) - 1)) n i else va_up r (118 + 6 * i + 4) (r (118 + 6 * i + 4) - 1)
theorem rqs_of {r r' : Rw} {n : Nat} (h : rqs r n) (h9 : r' 9 = r 9) (h2 : ∀ i, i < n → r' (118 + 6 * i + 1) = r (118 + 6 * i + 1) ∧ r' (118 + 6 * i + 2) = r (118 + 6 * i + 2)) : rqs r' n :=
  ⟨h.1, h9.trans h.2.1, fun i hi => ⟨by rw [(h2 i hi).1]; exact (h.2.2 i hi).1, by rw [(h2 i hi).2]; exact (h.2.2 i hi).2⟩⟩
theorem s_worksOn {n i : Nat} (hb : gB G ≤ o) (hn : rqs (u.1 4) n) (hi : fst (ixB (u.1 4) (u.1 4 8)) n = some i) (h7 : ¬ u.1 4 7 < 0) : XP PP (d + 2) 182 0 [.ref o, UV] [] (mst G o u) = some (.inl (none), mst G o (uR u 4 (woF (u.1 4) n i))) := by
  have hn' := hn
  obtain ⟨hn4, h9, hq⟩ := hn
  have hin := (fst_spec hi).1
  have si := s_indexOf (d := d) (o := o) (G := G) (u := u) (s := u.1 4 8) hn4 h9
  rw [hi] at si
  have hi4 : i < 40 := by omega
  have i1 : inb (nI (118 + 6 * i + 4)) 718 = true := inb_nI (by omega) (by omega)
  have i2 : (nI (118 + 6 * i + 4)).toNatClampNeg = 118 + 6 * i + 4 := nI_clamp (by omega)
  have rq2 : rqs ((uR u 4 (va_up (u.1 4) (118 + 6 * i + 4) (u.1 4 (118 + 6 * i + 4) - 1))).1 4) n := rqs_of hn' (up_o (by omega)) (fun j hj => ⟨up_o (by omega), up_o (by omega)⟩)
  have h72 : ¬ (uR u 4 (va_up (u.1 4) (118 + 6 * i + 4) (u.1 4 (118 + 6 * i + 4) - 1))).1 4 7 < 0 := by rw [uR_s, up_o (by omega)]; exact h7
  have sa := s_answers (d := d) (o := o) (G := G) (u := uR u 4 (va_up (u.1 4) (118 + 6 * i + 4) (u.1 4 (118 + 6 * i + 4) - 1))) hb rq2 hin h72
  unfold woF
  by_cases q : u.1 4 (118 + 6 * i + 4) - 1 = 0
  · rw [uR_s] at sa
    rw [q] at sa
    simp [x182_0, x182_1, x182_2, x182_5, x182_7, x182_8, x182_11, x182_12, x182_13, x182_16, x182_18, x182_20, x182_21, x182_22, x182_23, x182_24, x182_25, x182_26, x182_27, x182_28, x182_31, x182_32, x182_33, x182_34, x182_35, x182_36, x182_37, x182_40, x182_43, x182_44, x182_45, x182_48, rf_ref, c1_int, c1_ref, c1_UV, mst_T0, mst_I0, mst_R0, mst_J0, mst_T, mst_N, mst_I, mst_J, mst_B, mst_sI, mst_sI0, mst_sJ, mst_sJ0, uR_s, uR_o, uR_2, uR_uR, uL_s, uL_o, uL_1, up_s, up_o, mT, mN, mR, va_rf_some, litA, litB, litM, nI_add, okZ_0, okZ_1, okZ_zb, zb_0, gB_add, inb_lit, cl_lit, Nat.lt_irrefl, ↓reduceIte, if_true, if_false, RP_v, RP_n, s_of0, s_of1, s_of2, s_of3, s_of4, s_of5, si, oI, hi4, i1, i2, hb, q, sa]
  · simp [x182_0, x182_1, x182_2, x182_5, x182_7, x182_8, x182_11, x182_12, x182_13, x182_16, x182_18, x182_20, x182_21, x182_22, x182_23, x182_24, x182_25, x182_26, x182_27, x182_28, x182_31, x182_32, x182_33, x182_34, x182_35, x182_36, x182_37, x182_40, x182_43, x182_44, x182_45, x182_48, rf_ref, c1_int, c1_ref, c1_UV, mst_T0, mst_I0, mst_R0, mst_J0, mst_T, mst_N, mst_I, mst_J, mst_B, mst_sI, mst_sI0, mst_sJ, mst_sJ0, uR_s, uR_o, uR_2, uR_uR, uL_s, uL_o, uL_1, up_s, up_o, mT, mN, mR, va_rf_some, litA, litB, litM, nI_add, okZ_0, okZ_1, okZ_zb, zb_0, gB_add, inb_lit, cl_lit, Nat.lt_irrefl, ↓reduceIte, if_true, if_false, RP_v, RP_n, s_of0, s_of1, s_of2, s_of3, s_of4, s_of5, si, oI, hi4, i1, i2, hb, q]
end

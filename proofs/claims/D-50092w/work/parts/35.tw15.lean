/-! the twin: history -/
theorem cpy_mk {α : Type} (g : Nat → α) (s n : Nat) : va_up (va_cpy g g s 0 n) n (va_cpy g g s 0 n (n + s)) = va_cpy g g s 0 (n + 1) := by
  have := cpy_m g (sp := s) (dp := 0) (n := n) (by omega)
  simp only [Nat.zero_add] at this
  rw [Nat.add_comm n s]
  exact this
theorem cpy_d {α : Type} (f g : Nat → α) (dp n : Nat) : va_up (va_cpy f g 0 dp n) (dp + n) (f n) = va_cpy f g 0 dp (n + 1) := by
  have := cpy_s f g 0 dp n
  simp only [Nat.zero_add] at this
  exact this
def hsF (H : Rw) (m : Nat) (a : Rw) : Rw := if m = 8 then va_cpy a (va_cpy H H 718 0 5026) 0 5026 718 else va_cpy a H 0 (718 * m) 718
section
variable {d o : Nat} {G : Hp} {u : Mu}
set_option maxHeartbeats 4000000
theorem s_done2 {v : Int32} {m : Nat} (hb : gB G ≤ o) (hm : u.1 0 17 = nI m) (h8 : m ≤ 7) : XP PP d 186 52 [.ref o, .int v, .int 0] [] (mst G o u) = some (.inl (some (.int v)), mst G o (uR (uR u 0 (va_up (u.1 0) 17 (nI (m + 1)))) 9 (va_cpy (u.1 6) (u.1 9) 0 (718 * m) 718))) := by
  have hl : XP PP d 186 52 [.ref o, .int v, .int 0] [] (mst G o (uR u 9 (va_cpy (u.1 6) (u.1 9) 0 (718 * m) 0))) = some (.inl (some (.int v)), mst G o (uR (uR u 0 (va_up (u.1 0) 17 (nI (m + 1)))) 9 (va_cpy (u.1 6) (u.1 9) 0 (718 * m) 718))) := by
    refine XP_for 718 (fun k => [.ref o, .int v, .int (nI k)]) (fun k => mst G o (uR u 9 (va_cpy (u.1 6) (u.1 9) 0 (718 * m) k))) ?_ ?_ 0 (Nat.zero_le _)
    · intro k hk
      have e1 : ¬ (718 : Int32) ≤ nI k := nI_ge (b := 718) hk (by omega)
      have i1 : inb (nI k) 718 = true := inb_nI hk (by omega)
      have i2 : (nI k).toNatClampNeg = k := nI_clamp (by omega)
      have i3 : inb (nI (718 * m + k)) 5744 = true := inb_nI (by omega) (by omega)
      have i4 : (nI (718 * m + k)).toNatClampNeg = 718 * m + k := nI_clamp (by omega)
      refine Eq.trans (by first | exact x186_52 | exact x186_52 (rf_ref _) | exact x186_52 rfl) ?_
      simp [x186_0, x186_1, x186_4, x186_6, x186_9, x186_10, x186_12, x186_15, x186_18, x186_19, x186_22, x186_23, x186_24, x186_27, x186_28, x186_31, x186_32, x186_33, x186_34, x186_37, x186_40, x186_41, x186_42, x186_45, x186_46, x186_47, x186_50, x186_51, x186_53, x186_56, x186_59, x186_60, x186_63, x186_66, x186_67, x186_70, x186_71, x186_72, x186_73, x186_74, x186_77, x186_78, x186_79, x186_80, x186_83, x186_86, x186_87, x186_88, x186_91, x186_92, x186_93, x186_96, x186_97, rf_ref, c1_int, c1_ref, c1_UV, mst_T0, mst_I0, mst_R0, mst_J0, mst_T, mst_N, mst_I, mst_J, mst_B, mst_sI, mst_sI0, mst_sJ, mst_sJ0, uR_s, uR_o, uR_2, uR_uR, uL_s, uL_o, uL_1, up_s, up_o, mT, mN, mR, va_rf_some, litA, litB, litM, nI_add, okZ_0, okZ_1, okZ_zb, zb_0, gB_add, inb_lit, cl_lit, Nat.lt_irrefl, ↓reduceIte, if_true, if_false, RP_v, RP_n, hm, e1, i1, i2, i3, i4, hb, cpy_d, nI_1]
    · refine Eq.trans (by first | exact x186_52 | exact x186_52 (rf_ref _) | exact x186_52 rfl) ?_
      simp [x186_0, x186_1, x186_4, x186_6, x186_9, x186_10, x186_12, x186_15, x186_18, x186_19, x186_22, x186_23, x186_24, x186_27, x186_28, x186_31, x186_32, x186_33, x186_34, x186_37, x186_40, x186_41, x186_42, x186_45, x186_46, x186_47, x186_50, x186_51, x186_53, x186_56, x186_59, x186_60, x186_63, x186_66, x186_67, x186_70, x186_71, x186_72, x186_73, x186_74, x186_77, x186_78, x186_79, x186_80, x186_83, x186_86, x186_87, x186_88, x186_91, x186_92, x186_93, x186_96, x186_97, rf_ref, c1_int, c1_ref, c1_UV, mst_T0, mst_I0, mst_R0, mst_J0, mst_T, mst_N, mst_I, mst_J, mst_B, mst_sI, mst_sI0, mst_sJ, mst_sJ0, uR_s, uR_o, uR_2, uR_uR, uL_s, uL_o, uL_1, up_s, up_o, mT, mN, mR, va_rf_some, litA, litB, litM, nI_add, okZ_0, okZ_1, okZ_zb, zb_0, gB_add, inb_lit, cl_lit, Nat.lt_irrefl, ↓reduceIte, if_true, if_false, RP_v, RP_n, hm, hb, nI_1, uc1_0, uc4_0, uc4_1, uc5_0, uc5_1, uc5_4, uc6_0, uc6_1, uc6_4, uc6_5, uc7_0, uc7_1, uc7_4, uc7_5, uc7_6, uc8_0, uc8_1, uc8_4, uc8_5, uc8_6, uc8_7, uc9_0, uc9_1, uc9_4, uc9_5, uc9_6, uc9_7, uc9_8, uc10_0, uc10_1, uc10_4, uc10_5, uc10_6, uc10_7, uc10_8, uc10_9, uc11_0, uc11_1, uc11_4, uc11_5, uc11_6, uc11_7, uc11_8, uc11_9, uc11_10, uc12_0, uc12_1, uc12_4, uc12_5, uc12_6, uc12_7, uc12_8, uc12_9, uc12_10, uc12_11, uc13_0, uc13_1, uc13_4, uc13_5, uc13_6, uc13_7, uc13_8, uc13_9, uc13_10, uc13_11, uc13_12, uc14_0, uc14_1, uc14_4, uc14_5, uc14_6, uc14_7, uc14_8, uc14_9, uc14_10, uc14_11, uc14_12, uc14_13, uc17_0, uc17_1, uc17_4, uc17_5, uc17_6, uc17_7, uc17_8, uc17_9, uc17_10, uc17_11, uc17_12, uc17_13, uc17_14, show ((718 : Int32) ≤ nI 718) from Int32.le_refl _]
  rw [cpy_0, uR_id] at hl
  exact hl
theorem s_done1 {v : Int32} (hb : gB G ≤ o) : XP PP d 186 11 [.ref o, .int v, .int 0] [] (mst G o u) = XP PP d 186 40 [.ref o, .int v, .int 5026] [] (mst G o (uR u 9 (va_cpy (u.1 9) (u.1 9) 718 0 5026))) := by
  have hl : XP PP d 186 11 [.ref o, .int v, .int 0] [] (mst G o (uR u 9 (va_cpy (u.1 9) (u.1 9) 718 0 0))) = XP PP d 186 40 [.ref o, .int v, .int 5026] [] (mst G o (uR u 9 (va_cpy (u.1 9) (u.1 9) 718 0 5026))) := by
    refine XP_for 5026 (fun k => [.ref o, .int v, .int (nI k)]) (fun k => mst G o (uR u 9 (va_cpy (u.1 9) (u.1 9) 718 0 k))) ?_ ?_ 0 (Nat.zero_le _)
    · intro k hk
      have e1 : ¬ (5026 : Int32) ≤ nI k := nI_ge (b := 5026) hk (by omega)
      have i1 : inb (nI k) 5744 = true := inb_nI (by omega) (by omega)
      have i2 : (nI k).toNatClampNeg = k := nI_clamp (by omega)
      have i3 : inb (nI (k + 718)) 5744 = true := inb_nI (by omega) (by omega)
      have i4 : (nI (k + 718)).toNatClampNeg = k + 718 := nI_clamp (by omega)
      refine Eq.trans (by first | exact x186_11 | exact x186_11 (rf_ref _) | exact x186_11 rfl) ?_
      simp [x186_0, x186_1, x186_4, x186_6, x186_9, x186_10, x186_12, x186_15, x186_18, x186_19, x186_22, x186_23, x186_24, x186_27, x186_28, x186_31, x186_32, x186_33, x186_34, x186_37, x186_40, x186_41, x186_42, x186_45, x186_46, x186_47, x186_50, x186_51, x186_53, x186_56, x186_59, x186_60, x186_63, x186_66, x186_67, x186_70, x186_71, x186_72, x186_73, x186_74, x186_77, x186_78, x186_79, x186_80, x186_83, x186_86, x186_87, x186_88, x186_91, x186_92, x186_93, x186_96, x186_97, rf_ref, c1_int, c1_ref, c1_UV, mst_T0, mst_I0, mst_R0, mst_J0, mst_T, mst_N, mst_I, mst_J, mst_B, mst_sI, mst_sI0, mst_sJ, mst_sJ0, uR_s, uR_o, uR_2, uR_uR, uL_s, uL_o, uL_1, up_s, up_o, mT, mN, mR, va_rf_some, litA, litB, litM, nI_add, okZ_0, okZ_1, okZ_zb, zb_0, gB_add, inb_lit, cl_lit, Nat.lt_irrefl, ↓reduceIte, if_true, if_false, RP_v, RP_n, e1, i1, i2, i3, i4, hb, cpy_mk, nI_1]
    · refine Eq.trans (by first | exact x186_11 | exact x186_11 (rf_ref _) | exact x186_11 rfl) ?_
      simp [x186_12, x186_15, x186_18, x186_19, x186_22, x186_23, x186_24, x186_27, x186_28, x186_31, x186_32, x186_33, x186_34, x186_37, rf_ref, c1_int, c1_ref, c1_UV, mst_T0, mst_I0, mst_R0, mst_J0, mst_T, mst_N, mst_I, mst_J, mst_B, mst_sI, mst_sI0, mst_sJ, mst_sJ0, uR_s, uR_o, uR_2, uR_uR, uL_s, uL_o, uL_1, up_s, up_o, mT, mN, mR, va_rf_some, litA, litB, litM, nI_add, okZ_0, okZ_1, okZ_zb, zb_0, gB_add, inb_lit, cl_lit, Nat.lt_irrefl, ↓reduceIte, if_true, if_false, RP_v, RP_n, show ((5026 : Int32) ≤ nI 5026) from Int32.le_refl _]
      rfl
  rw [cpy_0, uR_id] at hl
  exact hl
theorem s_done {v : Int32} {m : Nat} (hb : gB G ≤ o) (hm : u.1 0 17 = nI m) (h8 : m ≤ 8) : XP PP d 186 0 [.ref o, .int v, UV] [] (mst G o u) = some (.inl (some (.int v)), mst G o (uR (uR u 0 (va_up (u.1 0) 17 (nI (if m = 8 then 8 else m + 1)))) 9 (hsF (u.1 9) m (u.1 6)))) := by
  by_cases q : m = 8
  · subst q
    have e1 := s_done1 (d := d) (G := G) (o := o) (u := u) (v := v) hb
    have e2 := s_done2 (d := d) (G := G) (o := o) (u := uR (uR u 0 (va_up (u.1 0) 17 (nI 7))) 9 (va_cpy (u.1 9) (u.1 9) 718 0 5026)) (v := v) (m := 7) hb (by rw [uR_o (by decide), uR_s, up_s]) (by omega)
    have e8 : nI 8 - 1 = nI 7 := nI_sub (a := 8) (b := 1) (by omega)
    have e9 : va_up (va_up (u.1 0) 17 (nI 7)) 17 (nI 8) = va_up (u.1 0) 17 (nI 8) := by funext k; unfold va_up; split <;> rfl
    simp [rf_ref, c1_int, c1_ref, c1_UV, mst_T0, mst_I0, mst_R0, mst_J0, mst_T, mst_N, mst_I, mst_J, mst_B, mst_sI, mst_sI0, mst_sJ, mst_sJ0, uR_s, uR_o, uR_2, uR_uR, uL_s, uL_o, uL_1, up_s, up_o, mT, mN, mR, va_rf_some, litA, litB, litM, nI_add, okZ_0, okZ_1, okZ_zb, zb_0, gB_add, inb_lit, cl_lit, Nat.lt_irrefl, ↓reduceIte, if_true, if_false, RP_v, RP_n, uc1_0, uc4_0, uc4_1, uc5_0, uc5_1, uc5_4, uc6_0, uc6_1, uc6_4, uc6_5, uc7_0, uc7_1, uc7_4, uc7_5, uc7_6, uc8_0, uc8_1, uc8_4, uc8_5, uc8_6, uc8_7, uc9_0, uc9_1, uc9_4, uc9_5, uc9_6, uc9_7, uc9_8, uc10_0, uc10_1, uc10_4, uc10_5, uc10_6, uc10_7, uc10_8, uc10_9, uc11_0, uc11_1, uc11_4, uc11_5, uc11_6, uc11_7, uc11_8, uc11_9, uc11_10, uc12_0, uc12_1, uc12_4, uc12_5, uc12_6, uc12_7, uc12_8, uc12_9, uc12_10, uc12_11, uc13_0, uc13_1, uc13_4, uc13_5, uc13_6, uc13_7, uc13_8, uc13_9, uc13_10, uc13_11, uc13_12, uc14_0, uc14_1, uc14_4, uc14_5, uc14_6, uc14_7, uc14_8, uc14_9, uc14_10, uc14_11, uc14_12, uc14_13, uc17_0, uc17_1, uc17_4, uc17_5, uc17_6, uc17_7, uc17_8, uc17_9, uc17_10, uc17_11, uc17_12, uc17_13, uc17_14] at e2
    unfold hsF
    rw [if_pos rfl, if_pos rfl]
    have h80 : (nI 8 : Int32) = 8 := rfl
    simp [x186_0, x186_1, x186_4, x186_6, x186_9, x186_10, rf_ref, c1_int, c1_ref, c1_UV, mst_T0, mst_I0, mst_R0, mst_J0, mst_T, mst_N, mst_I, mst_J, mst_B, mst_sI, mst_sI0, mst_sJ, mst_sJ0, uR_s, uR_o, uR_2, uR_uR, uL_s, uL_o, uL_1, up_s, up_o, mT, mN, mR, va_rf_some, litA, litB, litM, nI_add, okZ_0, okZ_1, okZ_zb, zb_0, gB_add, inb_lit, cl_lit, Nat.lt_irrefl, ↓reduceIte, if_true, if_false, RP_v, RP_n, hm, h80, e1]
    simp [x186_40, x186_41, x186_42, x186_45, x186_46, x186_47, x186_50, x186_51, rf_ref, c1_int, c1_ref, c1_UV, mst_T0, mst_I0, mst_R0, mst_J0, mst_T, mst_N, mst_I, mst_J, mst_B, mst_sI, mst_sI0, mst_sJ, mst_sJ0, uR_s, uR_o, uR_2, uR_uR, uL_s, uL_o, uL_1, up_s, up_o, mT, mN, mR, va_rf_some, litA, litB, litM, nI_add, okZ_0, okZ_1, okZ_zb, zb_0, gB_add, inb_lit, cl_lit, Nat.lt_irrefl, ↓reduceIte, if_true, if_false, RP_v, RP_n, hm, hb, e8, uc1_0, uc4_0, uc4_1, uc5_0, uc5_1, uc5_4, uc6_0, uc6_1, uc6_4, uc6_5, uc7_0, uc7_1, uc7_4, uc7_5, uc7_6, uc8_0, uc8_1, uc8_4, uc8_5, uc8_6, uc8_7, uc9_0, uc9_1, uc9_4, uc9_5, uc9_6, uc9_7, uc9_8, uc10_0, uc10_1, uc10_4, uc10_5, uc10_6, uc10_7, uc10_8, uc10_9, uc11_0, uc11_1, uc11_4, uc11_5, uc11_6, uc11_7, uc11_8, uc11_9, uc11_10, uc12_0, uc12_1, uc12_4, uc12_5, uc12_6, uc12_7, uc12_8, uc12_9, uc12_10, uc12_11, uc13_0, uc13_1, uc13_4, uc13_5, uc13_6, uc13_7, uc13_8, uc13_9, uc13_10, uc13_11, uc13_12, uc14_0, uc14_1, uc14_4, uc14_5, uc14_6, uc14_7, uc14_8, uc14_9, uc14_10, uc14_11, uc14_12, uc14_13, uc17_0, uc17_1, uc17_4, uc17_5, uc17_6, uc17_7, uc17_8, uc17_9, uc17_10, uc17_11, uc17_12, uc17_13, uc17_14, e2, e9]
    rfl
  · have hne : ¬ nI m = nI 8 := fun z => q ((nI_eq (by omega) (by omega)).mp z)
    have hne' : ¬ nI m = 8 := hne
    have e2 := s_done2 (d := d) (G := G) (o := o) (u := u) (v := v) (m := m) hb hm (by omega)
    unfold hsF
    rw [if_neg q, if_neg q]
    simp [x186_0, x186_1, x186_4, x186_6, x186_9, x186_10, x186_50, x186_51, rf_ref, c1_int, c1_ref, c1_UV, mst_T0, mst_I0, mst_R0, mst_J0, mst_T, mst_N, mst_I, mst_J, mst_B, mst_sI, mst_sI0, mst_sJ, mst_sJ0, uR_s, uR_o, uR_2, uR_uR, uL_s, uL_o, uL_1, up_s, up_o, mT, mN, mR, va_rf_some, litA, litB, litM, nI_add, okZ_0, okZ_1, okZ_zb, zb_0, gB_add, inb_lit, cl_lit, Nat.lt_irrefl, ↓reduceIte, if_true, if_false, RP_v, RP_n, hm, hne', e2]
/-- undo: the row of a place in the history -/
def hrF (H : Rw) (m : Nat) (r : Rw) : Rw := va_cpy H r (718 * m) 0 718
theorem s_undo0 (hb : gB G ≤ o) (hm : u.1 0 17 = 0) : XP PP (d + 1) 148 0 [.ref o, UV] [] (mst G o u) = some (.inl (some (.int 0)), mst G o (uT u 1)) := by
  have e := s_is (d := d) (G := G) (o := o) (u := u) (b := false) hb
  simp [zb] at e
  simp [x148_0, x148_1, x148_2, x148_5, x148_8, x148_9, x148_12, x148_13, x148_16, x148_19, x148_20, x148_21, x148_22, x148_23, x148_26, x148_27, x148_28, x148_31, x148_32, x148_33, x148_34, x148_37, x148_40, x148_41, x148_44, x148_45, x148_46, x148_49, x148_52, x148_53, x148_56, x148_57, x148_58, x148_59, x148_60, x148_61, x148_64, x148_67, x148_68, x148_71, rf_ref, c1_int, c1_ref, c1_UV, mst_T0, mst_I0, mst_R0, mst_J0, mst_T, mst_N, mst_I, mst_J, mst_B, mst_sI, mst_sI0, mst_sJ, mst_sJ0, uR_s, uR_o, uR_2, uR_uR, uL_s, uL_o, uL_1, up_s, up_o, mT, mN, mR, va_rf_some, litA, litB, litM, nI_add, okZ_0, okZ_1, okZ_zb, zb_0, gB_add, inb_lit, cl_lit, Nat.lt_irrefl, ↓reduceIte, if_true, if_false, RP_v, RP_n, hm, e]
theorem s_undo {m : Nat} (hb : gB G ≤ o) (hm : u.1 0 17 = nI (m + 1)) (h8 : m ≤ 7) : XP PP (d + 1) 148 0 [.ref o, UV] [] (mst G o u) = some (.inl (some (.int (nI m))), mst G o (uR (uR u 0 (va_up (va_up (u.1 0) 0 0) 17 (nI m))) 4 (hrF (u.1 9) m (u.1 4)))) := by
  have hpos : ¬ nI (m + 1) ≤ 0 := by
    intro z
    have z' : nI (m + 1) ≤ nI 0 := z
    rw [nI_leI (by omega) (by omega)] at z'
    omega
  have e1 : nI (m + 1) - 1 = nI m := nI_sub (a := m + 1) (b := 1) (by omega)
  have ei := s_is (d := d) (G := G) (o := o) (u := u) (b := true) hb
  simp [zb] at ei
  have hl : XP PP (d + 1) 148 33 [.ref o, .int 0] [] (mst G o (uR (uR u 0 (va_up (va_up (u.1 0) 0 0) 17 (nI m))) 4 (va_cpy (u.1 9) (u.1 4) (718 * m) 0 0))) = some (.inl (some (.int (nI m))), mst G o (uR (uR u 0 (va_up (va_up (u.1 0) 0 0) 17 (nI m))) 4 (hrF (u.1 9) m (u.1 4)))) := by
    refine XP_for 718 (fun k => [.ref o, .int (nI k)]) (fun k => mst G o (uR (uR u 0 (va_up (va_up (u.1 0) 0 0) 17 (nI m))) 4 (va_cpy (u.1 9) (u.1 4) (718 * m) 0 k))) ?_ ?_ 0 (Nat.zero_le _)
    · intro k hk
      have e1 : ¬ (718 : Int32) ≤ nI k := nI_ge (b := 718) hk (by omega)
      have i1 : inb (nI k) 718 = true := inb_nI hk (by omega)
      have i2 : (nI k).toNatClampNeg = k := nI_clamp (by omega)
      have i3 : inb (nI (718 * m + k)) 5744 = true := inb_nI (by omega) (by omega)
      have i4 : (nI (718 * m + k)).toNatClampNeg = 718 * m + k := nI_clamp (by omega)
      have cs := cpy_s (u.1 9) (u.1 4) (718 * m) 0 k
      simp only [Nat.zero_add] at cs
      refine Eq.trans (by first | exact x148_33 | exact x148_33 (rf_ref _) | exact x148_33 rfl) ?_
      simp [x148_0, x148_1, x148_2, x148_5, x148_8, x148_9, x148_12, x148_13, x148_16, x148_19, x148_20, x148_21, x148_22, x148_23, x148_26, x148_27, x148_28, x148_31, x148_32, x148_34, x148_37, x148_40, x148_41, x148_44, x148_45, x148_46, x148_49, x148_52, x148_53, x148_56, x148_57, x148_58, x148_59, x148_60, x148_61, x148_64, x148_67, x148_68, x148_71, rf_ref, c1_int, c1_ref, c1_UV, mst_T0, mst_I0, mst_R0, mst_J0, mst_T, mst_N, mst_I, mst_J, mst_B, mst_sI, mst_sI0, mst_sJ, mst_sJ0, uR_s, uR_o, uR_2, uR_uR, uL_s, uL_o, uL_1, up_s, up_o, mT, mN, mR, va_rf_some, litA, litB, litM, nI_add, okZ_0, okZ_1, okZ_zb, zb_0, gB_add, inb_lit, cl_lit, Nat.lt_irrefl, ↓reduceIte, if_true, if_false, RP_v, RP_n, e1, i1, i2, i3, i4, hb, cs, nI_1]
    · refine Eq.trans (by first | exact x148_33 | exact x148_33 (rf_ref _) | exact x148_33 rfl) ?_
      simp [x148_0, x148_1, x148_2, x148_5, x148_8, x148_9, x148_12, x148_13, x148_16, x148_19, x148_20, x148_21, x148_22, x148_23, x148_26, x148_27, x148_28, x148_31, x148_32, x148_34, x148_37, x148_40, x148_41, x148_44, x148_45, x148_46, x148_49, x148_52, x148_53, x148_56, x148_57, x148_58, x148_59, x148_60, x148_61, x148_64, x148_67, x148_68, x148_71, rf_ref, c1_int, c1_ref, c1_UV, mst_T0, mst_I0, mst_R0, mst_J0, mst_T, mst_N, mst_I, mst_J, mst_B, mst_sI, mst_sI0, mst_sJ, mst_sJ0, uR_s, uR_o, uR_2, uR_uR, uL_s, uL_o, uL_1, up_s, up_o, mT, mN, mR, va_rf_some, litA, litB, litM, nI_add, okZ_0, okZ_1, okZ_zb, zb_0, gB_add, inb_lit, cl_lit, Nat.lt_irrefl, ↓reduceIte, if_true, if_false, RP_v, RP_n, hrF, show ((718 : Int32) ≤ nI 718) from Int32.le_refl _]
  rw [cpy_0] at hl
  have e0 : uR (uR u 0 (va_up (va_up (u.1 0) 0 0) 17 (nI m))) 4 (u.1 4) = uR u 0 (va_up (va_up (u.1 0) 0 0) 17 (nI m)) := by
    have := uR_id (u := uR u 0 (va_up (va_up (u.1 0) 0 0) 17 (nI m))) (j := 4)
    rwa [uR_o (by decide)] at this
  rw [e0] at hl
  simp [x148_0, x148_1, x148_2, x148_5, x148_8, x148_9, x148_12, x148_13, x148_16, x148_19, x148_20, x148_21, x148_22, x148_23, x148_26, x148_27, x148_28, x148_31, x148_32, rf_ref, c1_int, c1_ref, c1_UV, mst_T0, mst_I0, mst_R0, mst_J0, mst_T, mst_N, mst_I, mst_J, mst_B, mst_sI, mst_sI0, mst_sJ, mst_sJ0, uR_s, uR_o, uR_2, uR_uR, uL_s, uL_o, uL_1, up_s, up_o, mT, mN, mR, va_rf_some, litA, litB, litM, nI_add, okZ_0, okZ_1, okZ_zb, zb_0, gB_add, inb_lit, cl_lit, Nat.lt_irrefl, ↓reduceIte, if_true, if_false, RP_v, RP_n, hm, hpos, ei, uT, hb, e1, hl]
end

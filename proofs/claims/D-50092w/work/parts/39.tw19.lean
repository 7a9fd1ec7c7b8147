/-! the twin: changes, one by one -/
section
variable {d o : Nat} {G : Hp} {u : Mu}
set_option maxHeartbeats 4000000
theorem e10_ch {r : Rw} : uR (uR (uR (uT u 0) 4 r) 6 (u.1 4)) 10 (u.1 10) = uR (uR (uT u 0) 4 r) 6 (u.1 4) := by
  have := uR_id (u := uR (uR (uT u 0) 4 r) 6 (u.1 4)) (j := 10)
  rwa [uR_o (by decide), uR_o (by decide), uT_o (by decide)] at this
theorem ch_done' {v : Int32} {m : Nat} {r : Rw} (hb : gB G ≤ o) (hm : u.1 0 17 = nI m) (h8 : m ≤ 8) :
    XP PP d 186 0 [.ref o, .int v, UV] [] (mst G o (uR (uR (uT u 0) 4 r) 6 (u.1 4))) = some (.inl (some (.int v)), mst G o (chF u m r (u.1 10))) := by
  have := ch_done (d := d) (v := v) (r := r) (T := u.1 10) hb hm h8
  rwa [e10_ch] at this
theorem WZ_T {x : Int32} (hz : WZ u) : WZ (uT u x) := fun j a b => by rw [uT_o (by omega)]; exact hz j a b
/-- cancel -/
theorem s_cancel2 {s : Int32} {n : Nat} (hb : gB G ≤ o) (h9 : u.1 4 9 = nI n) (hn : n ≤ 40) (h : fst (ixB (u.1 4) s) n = none) : XP PP (d + 2) 192 0 [.ref o, .int s, UV, UV] [] (mst G o u) = some (.inl (some (.int 0)), mst G o (uT u 2)) := by
  have si := fun d => s_indexOf (d := d) (o := o) (G := G) (u := u) (s := s) hn h9
  simp [h, oI] at si
  simp [x192_0, x192_1, x192_2, x192_5, x192_6, x192_7, x192_8, x192_9, x192_12, x192_13, x192_16, x192_17, x192_18, x192_21, x192_24, x192_25, x192_26, x192_27, x192_30, x192_31, x192_34, x192_37, x192_38, x192_39, x192_40, x192_43, x192_44, x192_45, x192_46, x192_49, x192_50, x192_51, x192_52, x192_55, x192_56, x192_57, x192_60, rf_ref, c1_int, c1_ref, c1_UV, mst_T0, mst_I0, mst_R0, mst_J0, mst_T, mst_N, mst_I, mst_J, mst_B, mst_sI, mst_sI0, mst_sJ, mst_sJ0, uR_s, uR_o, uR_2, uR_uR, uL_s, uL_o, uL_1, up_s, up_o, mT, mN, mR, va_rf_some, litA, litB, litM, nI_add, okZ_0, okZ_1, okZ_zb, zb_0, gB_add, inb_lit, cl_lit, Nat.lt_irrefl, ↓reduceIte, if_true, if_false, RP_v, RP_n, s_is1, s_is0, s_may1, s_may0, uT_0, uT_o, uT_2, uT_T, si, hb]
theorem s_cancel1 {s : Int32} {n i : Nat} (hb : gB G ≤ o) (h9 : u.1 4 9 = nI n) (hn : n ≤ 40) (h : fst (ixB (u.1 4) s) n = some i) (hw : wtB (u.1 4) i = false) : XP PP (d + 2) 192 0 [.ref o, .int s, UV, UV] [] (mst G o u) = some (.inl (some (.int 0)), mst G o (uT u 1)) := by
  have si := fun d => s_indexOf (d := d) (o := o) (G := G) (u := u) (s := s) hn h9
  have hi := (fst_spec h).1
  simp [h, oI] at si
  simp [x192_0, x192_1, x192_2, x192_5, x192_6, x192_7, x192_8, x192_9, x192_12, x192_13, x192_16, x192_17, x192_18, x192_21, x192_24, x192_25, x192_26, x192_27, x192_30, x192_31, x192_34, x192_37, x192_38, x192_39, x192_40, x192_43, x192_44, x192_45, x192_46, x192_49, x192_50, x192_51, x192_52, x192_55, x192_56, x192_57, x192_60, rf_ref, c1_int, c1_ref, c1_UV, mst_T0, mst_I0, mst_R0, mst_J0, mst_T, mst_N, mst_I, mst_J, mst_B, mst_sI, mst_sI0, mst_sJ, mst_sJ0, uR_s, uR_o, uR_2, uR_uR, uL_s, uL_o, uL_1, up_s, up_o, mT, mN, mR, va_rf_some, litA, litB, litM, nI_add, okZ_0, okZ_1, okZ_zb, zb_0, gB_add, inb_lit, cl_lit, Nat.lt_irrefl, ↓reduceIte, if_true, if_false, RP_v, RP_n, s_is1, s_is0, s_may1, s_may0, uT_0, uT_o, uT_2, uT_T, si, hb, m1_nI (show i < 2 ^ 31 by omega), s_doesWait (show i < 40 by omega), hw, zb_true, zb_false]
theorem s_cancel {s : Int32} {n i m : Nat} (hb : gB G ≤ o) (hz : WZ u) (h9 : u.1 4 9 = nI n) (hn : n ≤ 40) (hm : u.1 0 17 = nI m) (h8 : m ≤ 8) (h : fst (ixB (u.1 4) s) n = some i) (hw : wtB (u.1 4) i = true) : XP PP (d + 2) 192 0 [.ref o, .int s, UV, UV] [] (mst G o u) = some (.inl (some (.int (u.1 4 (118 + 6 * i + 3)))), mst G o (chF u m (toF (u.1 4) n i) (u.1 10))) := by
  have si := fun d => s_indexOf (d := d) (o := o) (G := G) (u := u) (s := s) hn h9
  have hi := (fst_spec h).1
  have st := fun d => s_starts (d := d) (G := G) (o := o) (u := uT u 0) hb (WZ_T hz)
  have so := fun d => s_takesOut (d := d) (G := G) (o := o) (u := uR (uT u 0) 6 (u.1 4)) (n := n) (i := i) hb (by rw [uR_o (by decide), uT_o (by decide)]; exact h9) hn hi
  have sd := fun d v => ch_done' (d := d) (G := G) (o := o) (u := u) (v := v) (m := m) (r := toF (u.1 4) n i) hb hm h8
  simp [h, oI] at si
  simp [rf_ref, c1_int, c1_ref, c1_UV, mst_T0, mst_I0, mst_R0, mst_J0, mst_T, mst_N, mst_I, mst_J, mst_B, mst_sI, mst_sI0, mst_sJ, mst_sJ0, uR_s, uR_o, uR_2, uR_uR, uL_s, uL_o, uL_1, up_s, up_o, mT, mN, mR, va_rf_some, litA, litB, litM, nI_add, okZ_0, okZ_1, okZ_zb, zb_0, gB_add, inb_lit, cl_lit, Nat.lt_irrefl, ↓reduceIte, if_true, if_false, RP_v, RP_n, s_is1, s_is0, s_may1, s_may0, uT_0, uT_o, uT_2, uT_T, uc1_0, uc4_0, uc4_1, uc5_0, uc5_1, uc5_4, uc6_0, uc6_1, uc6_4, uc6_5, uc7_0, uc7_1, uc7_4, uc7_5, uc7_6, uc8_0, uc8_1, uc8_4, uc8_5, uc8_6, uc8_7, uc9_0, uc9_1, uc9_4, uc9_5, uc9_6, uc9_7, uc9_8, uc10_0, uc10_1, uc10_4, uc10_5, uc10_6, uc10_7, uc10_8, uc10_9, uc11_0, uc11_1, uc11_4, uc11_5, uc11_6, uc11_7, uc11_8, uc11_9, uc11_10, uc12_0, uc12_1, uc12_4, uc12_5, uc12_6, uc12_7, uc12_8, uc12_9, uc12_10, uc12_11, uc13_0, uc13_1, uc13_4, uc13_5, uc13_6, uc13_7, uc13_8, uc13_9, uc13_10, uc13_11, uc13_12, uc14_0, uc14_1, uc14_4, uc14_5, uc14_6, uc14_7, uc14_8, uc14_9, uc14_10, uc14_11, uc14_12, uc14_13, uc17_0, uc17_1, uc17_4, uc17_5, uc17_6, uc17_7, uc17_8, uc17_9, uc17_10, uc17_11, uc17_12, uc17_13, uc17_14] at st so sd
  simp [x192_0, x192_1, x192_2, x192_5, x192_6, x192_7, x192_8, x192_9, x192_12, x192_13, x192_16, x192_17, x192_18, x192_21, x192_24, x192_25, x192_26, x192_27, x192_30, x192_31, x192_34, x192_37, x192_38, x192_39, x192_40, x192_43, x192_44, x192_45, x192_46, x192_49, x192_50, x192_51, x192_52, x192_55, x192_56, x192_57, x192_60, rf_ref, c1_int, c1_ref, c1_UV, mst_T0, mst_I0, mst_R0, mst_J0, mst_T, mst_N, mst_I, mst_J, mst_B, mst_sI, mst_sI0, mst_sJ, mst_sJ0, uR_s, uR_o, uR_2, uR_uR, uL_s, uL_o, uL_1, up_s, up_o, mT, mN, mR, va_rf_some, litA, litB, litM, nI_add, okZ_0, okZ_1, okZ_zb, zb_0, gB_add, inb_lit, cl_lit, Nat.lt_irrefl, ↓reduceIte, if_true, if_false, RP_v, RP_n, s_is1, s_is0, s_may1, s_may0, uT_0, uT_o, uT_2, uT_T, s_of0, s_of1, s_of2, s_of3, s_of4, s_of5, si, hb, m1_nI (show i < 2 ^ 31 by omega), s_doesWait (show i < 40 by omega), hw, zb_true, zb_false, (show i < 40 by omega), st, so, sd]
/-- debtBehind, canVeto, vetoes -/
def dbF (c r : Rw) (a : Nat) : Int32 := r (28 + a) + (if c 5 - r (20 + a) < 0 then 0 else c 5 - r (20 + a))
theorem s_debtBehind {a : Nat} (ha : a < 8) : XP PP (d + 1) 198 0 [.ref o, .int (nI a)] [] (mst G o u) = some (.inl (some (.int (dbF (u.1 0) (u.1 4) a))), mst G o u) := by
  have c1 : inb (nI (20 + a)) 718 = true := inb_nI (by omega) (by omega)
  have d1 : (nI (20 + a)).toNatClampNeg = 20 + a := nI_clamp (by omega)
  have c2 : inb (nI (28 + a)) 718 = true := inb_nI (by omega) (by omega)
  have d2 : (nI (28 + a)).toNatClampNeg = 28 + a := nI_clamp (by omega)
  simp [x198_0, x198_1, x198_4, x198_6, x198_7, x198_8, x198_9, x198_10, x198_11, x198_14, x198_15, x198_18, x198_20, x198_21, x198_22, x198_23, x198_24, x198_27, x198_28, rf_ref, c1_int, c1_ref, c1_UV, mst_T0, mst_I0, mst_R0, mst_J0, mst_T, mst_N, mst_I, mst_J, mst_B, mst_sI, mst_sI0, mst_sJ, mst_sJ0, uR_s, uR_o, uR_2, uR_uR, uL_s, uL_o, uL_1, up_s, up_o, mT, mN, mR, va_rf_some, litA, litB, litM, nI_add, okZ_0, okZ_1, okZ_zb, zb_0, gB_add, inb_lit, cl_lit, Nat.lt_irrefl, ↓reduceIte, if_true, if_false, RP_v, RP_n, c1, d1, c2, d2, s_greater, dbF]
def cvB (c r : Rw) (a : Nat) (k : Int32) : Bool := !hasB (r 4) k && decide (dbF c r a ≤ c 6)
theorem s_canVeto {a : Nat} {k : Int32} (ha : a < 8) : XP PP (d + 2) 197 0 [.ref o, .int (nI a), .int k] [] (mst G o u) = some (.inl (some (.int (zb (cvB (u.1 0) (u.1 4) a k)))), mst G o u) := by
  unfold cvB
  by_cases q : hasB (u.1 4 4) k = true
  · simp [x197_0, x197_1, x197_4, x197_5, x197_6, x197_7, x197_10, x197_13, x197_14, x197_15, x197_18, x197_19, x197_22, x197_25, x197_26, x197_29, x197_30, rf_ref, c1_int, c1_ref, c1_UV, mst_T0, mst_I0, mst_R0, mst_J0, mst_T, mst_N, mst_I, mst_J, mst_B, mst_sI, mst_sI0, mst_sJ, mst_sJ0, uR_s, uR_o, uR_2, uR_uR, uL_s, uL_o, uL_1, up_s, up_o, mT, mN, mR, va_rf_some, litA, litB, litM, nI_add, okZ_0, okZ_1, okZ_zb, zb_0, gB_add, inb_lit, cl_lit, Nat.lt_irrefl, ↓reduceIte, if_true, if_false, RP_v, RP_n, s_has, q, zb_true, zb_false]
  · by_cases q2 : dbF (u.1 0) (u.1 4) a ≤ u.1 0 6
    · simp [x197_0, x197_1, x197_4, x197_5, x197_6, x197_7, x197_10, x197_13, x197_14, x197_15, x197_18, x197_19, x197_22, x197_25, x197_26, x197_29, x197_30, rf_ref, c1_int, c1_ref, c1_UV, mst_T0, mst_I0, mst_R0, mst_J0, mst_T, mst_N, mst_I, mst_J, mst_B, mst_sI, mst_sI0, mst_sJ, mst_sJ0, uR_s, uR_o, uR_2, uR_uR, uL_s, uL_o, uL_1, up_s, up_o, mT, mN, mR, va_rf_some, litA, litB, litM, nI_add, okZ_0, okZ_1, okZ_zb, zb_0, gB_add, inb_lit, cl_lit, Nat.lt_irrefl, ↓reduceIte, if_true, if_false, RP_v, RP_n, s_has, q, zb_true, zb_false, s_debtBehind ha, q2, Int32.not_lt.mpr q2]
    · simp [x197_0, x197_1, x197_4, x197_5, x197_6, x197_7, x197_10, x197_13, x197_14, x197_15, x197_18, x197_19, x197_22, x197_25, x197_26, x197_29, x197_30, rf_ref, c1_int, c1_ref, c1_UV, mst_T0, mst_I0, mst_R0, mst_J0, mst_T, mst_N, mst_I, mst_J, mst_B, mst_sI, mst_sI0, mst_sJ, mst_sJ0, uR_s, uR_o, uR_2, uR_uR, uL_s, uL_o, uL_1, up_s, up_o, mT, mN, mR, va_rf_some, litA, litB, litM, nI_add, okZ_0, okZ_1, okZ_zb, zb_0, gB_add, inb_lit, cl_lit, Nat.lt_irrefl, ↓reduceIte, if_true, if_false, RP_v, RP_n, s_has, q, zb_true, zb_false, s_debtBehind ha, q2, Int32.not_le.mp q2]
def veF (c r : Rw) (a : Nat) (k : Int32) : Rw :=
  va_up (va_up (va_up (va_up r (28 + a) (dbF c r a)) (20 + a) (if r (20 + a) - c 5 < 0 then 0 else r (20 + a) - c 5)) 4 (r 4 ||| (1 <<< (k &&& 31)))) (44 + a) (r (44 + a) + 1)
theorem s_vetoes {a : Nat} {k : Int32} (hb : gB G ≤ o) (ha : a < 8) : XP PP (d + 2) 200 0 [.ref o, .int (nI a), .int k] [] (mst G o u) = some (.inl (some (.int (dbF (u.1 0) (u.1 4) a))), mst G o (uR u 4 (veF (u.1 0) (u.1 4) a k))) := by
  have c1 : inb (nI (20 + a)) 718 = true := inb_nI (by omega) (by omega)
  have d1 : (nI (20 + a)).toNatClampNeg = 20 + a := nI_clamp (by omega)
  have c2 : inb (nI (28 + a)) 718 = true := inb_nI (by omega) (by omega)
  have d2 : (nI (28 + a)).toNatClampNeg = 28 + a := nI_clamp (by omega)
  have c3 : inb (nI (44 + a)) 718 = true := inb_nI (by omega) (by omega)
  have d3 : (nI (44 + a)).toNatClampNeg = 44 + a := nI_clamp (by omega)
  simp [x200_0, x200_1, x200_4, x200_6, x200_7, x200_8, x200_9, x200_10, x200_13, x200_14, x200_15, x200_18, x200_20, x200_21, x200_22, x200_23, x200_24, x200_27, x200_29, x200_30, x200_31, x200_32, x200_33, x200_36, x200_37, x200_40, x200_41, x200_42, x200_45, x200_46, x200_47, x200_50, x200_51, x200_52, x200_53, x200_54, x200_55, x200_56, x200_57, x200_58, x200_61, x200_63, x200_64, x200_65, x200_66, x200_69, x200_71, x200_72, x200_73, x200_74, x200_75, x200_76, x200_77, x200_78, x200_81, x200_83, x200_84, x200_85, x200_86, rf_ref, c1_int, c1_ref, c1_UV, mst_T0, mst_I0, mst_R0, mst_J0, mst_T, mst_N, mst_I, mst_J, mst_B, mst_sI, mst_sI0, mst_sJ, mst_sJ0, uR_s, uR_o, uR_2, uR_uR, uL_s, uL_o, uL_1, up_s, up_o, mT, mN, mR, va_rf_some, litA, litB, litM, nI_add, okZ_0, okZ_1, okZ_zb, zb_0, gB_add, inb_lit, cl_lit, Nat.lt_irrefl, ↓reduceIte, if_true, if_false, RP_v, RP_n, c1, d1, c2, d2, c3, d3, s_greater, s_debtBehind ha, hb]
  simp (disch := omega) only [up_s, up_o]
  exact ⟨trivial, rfl⟩
end

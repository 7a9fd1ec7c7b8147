/-! the twin's row of numbers -/
section
variable {d o : Nat} {G : Hp} {u : Mu}
set_option maxHeartbeats 4000000
theorem s_of {i w : Nat} (hi : i < 40) (hw : w < 6) : XP PP d 177 0 [.ref o, .int (nI i), .int (nI w)] [] (mst G o u) = some (.inl (some (.int (u.1 4 (118 + 6 * i + w)))), mst G o u) := by
  have e1 : inb (nI (118 + 6 * i + w)) 718 = true := inb_nI (by omega) (by omega)
  have e2 : (nI (118 + 6 * i + w)).toNatClampNeg = 118 + 6 * i + w := nI_clamp (by omega)
  simp [x177_0, x177_1, x177_4, x177_6, x177_8, x177_9, x177_10, x177_11, x177_12, x177_13, x177_14, rf_ref, c1_int, c1_ref, c1_UV, mst_T0, mst_I0, mst_R0, mst_J0, mst_T, mst_N, mst_I, mst_J, mst_B, mst_sI, mst_sI0, mst_sJ, mst_sJ0, uR_s, uR_o, uR_2, uR_uR, uL_s, uL_o, uL_1, up_s, up_o, mT, mN, mR, va_rf_some, litA, litB, litM, nI_add, okZ_0, okZ_1, okZ_zb, zb_0, gB_add, inb_lit, cl_lit, Nat.lt_irrefl, ↓reduceIte, if_true, if_false, RP_v, RP_n, e1, e2]
theorem s_of0 {i : Nat} (hi : i < 40) : XP PP d 177 0 [.ref o, .int (nI i), .int 0] [] (mst G o u) = some (.inl (some (.int (u.1 4 (118 + 6 * i)))), mst G o u) := s_of (w := 0) hi (by omega)
theorem s_of1 {i : Nat} (hi : i < 40) : XP PP d 177 0 [.ref o, .int (nI i), .int 1] [] (mst G o u) = some (.inl (some (.int (u.1 4 (118 + 6 * i + 1)))), mst G o u) := s_of (w := 1) hi (by omega)
theorem s_of2 {i : Nat} (hi : i < 40) : XP PP d 177 0 [.ref o, .int (nI i), .int 2] [] (mst G o u) = some (.inl (some (.int (u.1 4 (118 + 6 * i + 2)))), mst G o u) := s_of (w := 2) hi (by omega)
theorem s_of3 {i : Nat} (hi : i < 40) : XP PP d 177 0 [.ref o, .int (nI i), .int 3] [] (mst G o u) = some (.inl (some (.int (u.1 4 (118 + 6 * i + 3)))), mst G o u) := s_of (w := 3) hi (by omega)
theorem s_of4 {i : Nat} (hi : i < 40) : XP PP d 177 0 [.ref o, .int (nI i), .int 4] [] (mst G o u) = some (.inl (some (.int (u.1 4 (118 + 6 * i + 4)))), mst G o u) := s_of (w := 4) hi (by omega)
theorem s_of5 {i : Nat} (hi : i < 40) : XP PP d 177 0 [.ref o, .int (nI i), .int 5] [] (mst G o u) = some (.inl (some (.int (u.1 4 (118 + 6 * i + 5)))), mst G o u) := s_of (w := 5) hi (by omega)
/-- indexOf -/
def ixB (r : Rw) (s : Int32) (i : Nat) : Bool := decide (r (118 + 6 * i) = s)
def oI (q : Option Nat) : Int32 := match q with
  | some i => nI i
  | none => -1
theorem s_indexOf {s : Int32} {n : Nat} (hn : n ≤ 40) (h9 : u.1 4 9 = nI n) : XP PP (d + 1) 183 0 [.ref o, .int s, UV] [] (mst G o u) = some (.inl (some (.int (oI (fst (ixB (u.1 4) s) n)))), mst G o u) := by
  have hl : XP PP (d + 1) 183 2 [.ref o, .int s, .int 0] [] (mst G o u) = some (.inl (some (.int (oI (fst (ixB (u.1 4) s) n)))), mst G o u) := by
    refine (XP_fst n (ixB (u.1 4) s) (fun j => [.ref o, .int s, .int (nI j)]) (fun _ => mst G o u) (X := some (.inl (some (.int (-1))), mst G o u)) (fun j => some (.inl (some (.int (nI j))), mst G o u)) ?_ ?_ ?_).trans ?_
    · intro j hj hp
      have hp' := of_decide_eq_true hp
      have h1 : ¬ nI n ≤ nI j := nI_ge hj (by omega)
      refine (x183_2).trans ?_
      simp [x183_3, x183_4, x183_7, x183_9, x183_10, x183_13, x183_14, x183_15, x183_16, x183_19, x183_20, x183_23, x183_24, x183_25, x183_28, x183_31, x183_32, rf_ref, c1_int, c1_ref, c1_UV, mst_T0, mst_I0, mst_R0, mst_J0, mst_T, mst_N, mst_I, mst_J, mst_B, mst_sI, mst_sI0, mst_sJ, mst_sJ0, uR_s, uR_o, uR_2, uR_uR, uL_s, uL_o, uL_1, up_s, up_o, mT, mN, mR, va_rf_some, litA, litB, litM, nI_add, okZ_0, okZ_1, okZ_zb, zb_0, gB_add, inb_lit, cl_lit, Nat.lt_irrefl, ↓reduceIte, if_true, if_false, RP_v, RP_n, s_of0, s_of1, s_of2, s_of3, s_of4, s_of5, h9, h1, hp', (show j < 40 by omega)]
    · intro j hj hp
      have hp' := of_decide_eq_false hp
      have h1 : ¬ nI n ≤ nI j := nI_ge hj (by omega)
      refine (x183_2).trans ?_
      simp [x183_3, x183_4, x183_7, x183_9, x183_10, x183_13, x183_14, x183_15, x183_16, x183_19, x183_20, x183_23, x183_24, x183_25, x183_28, x183_31, x183_32, rf_ref, c1_int, c1_ref, c1_UV, mst_T0, mst_I0, mst_R0, mst_J0, mst_T, mst_N, mst_I, mst_J, mst_B, mst_sI, mst_sI0, mst_sJ, mst_sJ0, uR_s, uR_o, uR_2, uR_uR, uL_s, uL_o, uL_1, up_s, up_o, mT, mN, mR, va_rf_some, litA, litB, litM, nI_add, okZ_0, okZ_1, okZ_zb, zb_0, gB_add, inb_lit, cl_lit, Nat.lt_irrefl, ↓reduceIte, if_true, if_false, RP_v, RP_n, s_of0, s_of1, s_of2, s_of3, s_of4, s_of5, h9, h1, hp', (show j < 40 by omega), nI_1]
    · refine (x183_2).trans ?_
      simp [x183_3, x183_4, x183_7, x183_9, x183_10, x183_13, x183_14, x183_15, x183_16, x183_19, x183_20, x183_23, x183_24, x183_25, x183_28, x183_31, x183_32, rf_ref, c1_int, c1_ref, c1_UV, mst_T0, mst_I0, mst_R0, mst_J0, mst_T, mst_N, mst_I, mst_J, mst_B, mst_sI, mst_sI0, mst_sJ, mst_sJ0, uR_s, uR_o, uR_2, uR_uR, uL_s, uL_o, uL_1, up_s, up_o, mT, mN, mR, va_rf_some, litA, litB, litM, nI_add, okZ_0, okZ_1, okZ_zb, zb_0, gB_add, inb_lit, cl_lit, Nat.lt_irrefl, ↓reduceIte, if_true, if_false, RP_v, RP_n, h9]
    · cases fst (ixB (u.1 4) s) n <;> rfl
  simp [x183_0, x183_1, rf_ref, c1_int, c1_ref, c1_UV, mst_T0, mst_I0, mst_R0, mst_J0, mst_T, mst_N, mst_I, mst_J, mst_B, mst_sI, mst_sI0, mst_sJ, mst_sJ0, uR_s, uR_o, uR_2, uR_uR, uL_s, uL_o, uL_1, up_s, up_o, mT, mN, mR, va_rf_some, litA, litB, litM, nI_add, okZ_0, okZ_1, okZ_zb, zb_0, gB_add, inb_lit, cl_lit, Nat.lt_irrefl, ↓reduceIte, if_true, if_false, RP_v, RP_n, hl]
/-- does not run -/
def wtB (r : Rw) (i : Nat) : Bool := decide (¬ r (118 + 6 * i) = r 8)
theorem s_doesWait {i : Nat} (hi : i < 40) : XP PP (d + 1) 178 0 [.ref o, .int (nI i)] [] (mst G o u) = some (.inl (some (.int (zb (wtB (u.1 4) i)))), mst G o u) := by
  unfold wtB zb
  by_cases h : u.1 4 (118 + 6 * i) = u.1 4 8
  · simp [x178_0, x178_1, x178_2, x178_3, x178_6, x178_7, x178_10, x178_12, x178_13, x178_16, x178_17, x178_20, x178_21, rf_ref, c1_int, c1_ref, c1_UV, mst_T0, mst_I0, mst_R0, mst_J0, mst_T, mst_N, mst_I, mst_J, mst_B, mst_sI, mst_sI0, mst_sJ, mst_sJ0, uR_s, uR_o, uR_2, uR_uR, uL_s, uL_o, uL_1, up_s, up_o, mT, mN, mR, va_rf_some, litA, litB, litM, nI_add, okZ_0, okZ_1, okZ_zb, zb_0, gB_add, inb_lit, cl_lit, Nat.lt_irrefl, ↓reduceIte, if_true, if_false, RP_v, RP_n, s_of0, s_of1, s_of2, s_of3, s_of4, s_of5, hi, h]
  · simp [x178_0, x178_1, x178_2, x178_3, x178_6, x178_7, x178_10, x178_12, x178_13, x178_16, x178_17, x178_20, x178_21, rf_ref, c1_int, c1_ref, c1_UV, mst_T0, mst_I0, mst_R0, mst_J0, mst_T, mst_N, mst_I, mst_J, mst_B, mst_sI, mst_sI0, mst_sJ, mst_sJ0, uR_s, uR_o, uR_2, uR_uR, uL_s, uL_o, uL_1, up_s, up_o, mT, mN, mR, va_rf_some, litA, litB, litM, nI_add, okZ_0, okZ_1, okZ_zb, zb_0, gB_add, inb_lit, cl_lit, Nat.lt_irrefl, ↓reduceIte, if_true, if_false, RP_v, RP_n, s_of0, s_of1, s_of2, s_of3, s_of4, s_of5, hi, h]
def cl (x : Int32) : Nat := x.toNatClampNeg
/-- claimOf -/
def clm (r : Rw) (i : Nat) : Int32 :=
  let m := r (15 + cl (r (118 + 6 * i + 2)))
  if m = 1 then - r (118 + 6 * i + 3) else if m = 2 then r (20 + cl (r (118 + 6 * i + 1))) else if m = 3 then r (28 + cl (r (118 + 6 * i + 1))) else 0
/-- a request's asker and class are in range -/
def rqOK (r : Rw) (i : Nat) : Prop := vp_in (r (118 + 6 * i + 1)) 8 ∧ vp_in (r (118 + 6 * i + 2)) 5
theorem s_claimOf {i : Nat} (hi : i < 40) (hr : rqOK (u.1 4) i) : XP PP (d + 1) 181 0 [.ref o, .int (nI i)] [] (mst G o u) = some (.inl (some (.int (clm (u.1 4) i))), mst G o u) := by
  obtain ⟨h1, h2⟩ := hr
  obtain ⟨a, ha, ea⟩ := vp_in_of h1 (by omega)
  obtain ⟨k, hk, ek⟩ := vp_in_of h2 (by omega)
  have e1 : inb (nI (15 + k)) 718 = true := inb_nI (by omega) (by omega)
  have e2 : (nI (15 + k)).toNatClampNeg = 15 + k := nI_clamp (by omega)
  have e3 : inb (nI (20 + a)) 718 = true := inb_nI (by omega) (by omega)
  have e4 : (nI (20 + a)).toNatClampNeg = 20 + a := nI_clamp (by omega)
  have e5 : inb (nI (28 + a)) 718 = true := inb_nI (by omega) (by omega)
  have e6 : (nI (28 + a)).toNatClampNeg = 28 + a := nI_clamp (by omega)
  have e7 : (nI k).toNatClampNeg = k := nI_clamp (by omega)
  have e8 : (nI a).toNatClampNeg = a := nI_clamp (by omega)
  unfold clm cl
  dsimp only
  rw [ek, ea, e7, e8]
  by_cases q1 : u.1 4 (15 + k) = 1
  · simp [x181_0, x181_1, x181_4, x181_6, x181_7, x181_8, x181_9, x181_12, x181_13, x181_14, x181_40, x181_41, x181_42, x181_43, x181_46, x181_47, x181_48, x181_49, x181_52, x181_54, x181_55, x181_56, x181_57, x181_60, x181_61, x181_62, x181_63, x181_64, x181_67, x181_69, x181_70, x181_71, x181_72, x181_75, x181_76, x181_77, x181_78, x181_79, rf_ref, c1_int, c1_ref, c1_UV, mst_T0, mst_I0, mst_R0, mst_J0, mst_T, mst_N, mst_I, mst_J, mst_B, mst_sI, mst_sI0, mst_sJ, mst_sJ0, uR_s, uR_o, uR_2, uR_uR, uL_s, uL_o, uL_1, up_s, up_o, mT, mN, mR, va_rf_some, litA, litB, litM, nI_add, okZ_0, okZ_1, okZ_zb, zb_0, gB_add, inb_lit, cl_lit, Nat.lt_irrefl, ↓reduceIte, if_true, if_false, RP_v, RP_n, s_of0, s_of1, s_of2, s_of3, s_of4, s_of5, hi, ek, ea, e1, e2, e3, e4, e5, e6, q1, x_swc, x_swn]
  · by_cases q2 : u.1 4 (15 + k) = 2
    · simp [x181_0, x181_1, x181_4, x181_6, x181_7, x181_8, x181_9, x181_12, x181_13, x181_14, x181_40, x181_41, x181_42, x181_43, x181_46, x181_47, x181_48, x181_49, x181_52, x181_54, x181_55, x181_56, x181_57, x181_60, x181_61, x181_62, x181_63, x181_64, x181_67, x181_69, x181_70, x181_71, x181_72, x181_75, x181_76, x181_77, x181_78, x181_79, rf_ref, c1_int, c1_ref, c1_UV, mst_T0, mst_I0, mst_R0, mst_J0, mst_T, mst_N, mst_I, mst_J, mst_B, mst_sI, mst_sI0, mst_sJ, mst_sJ0, uR_s, uR_o, uR_2, uR_uR, uL_s, uL_o, uL_1, up_s, up_o, mT, mN, mR, va_rf_some, litA, litB, litM, nI_add, okZ_0, okZ_1, okZ_zb, zb_0, gB_add, inb_lit, cl_lit, Nat.lt_irrefl, ↓reduceIte, if_true, if_false, RP_v, RP_n, s_of0, s_of1, s_of2, s_of3, s_of4, s_of5, hi, ek, ea, e1, e2, e3, e4, e5, e6, q2, x_swc, x_swn]
    · by_cases q3 : u.1 4 (15 + k) = 3
      · simp [x181_0, x181_1, x181_4, x181_6, x181_7, x181_8, x181_9, x181_12, x181_13, x181_14, x181_40, x181_41, x181_42, x181_43, x181_46, x181_47, x181_48, x181_49, x181_52, x181_54, x181_55, x181_56, x181_57, x181_60, x181_61, x181_62, x181_63, x181_64, x181_67, x181_69, x181_70, x181_71, x181_72, x181_75, x181_76, x181_77, x181_78, x181_79, rf_ref, c1_int, c1_ref, c1_UV, mst_T0, mst_I0, mst_R0, mst_J0, mst_T, mst_N, mst_I, mst_J, mst_B, mst_sI, mst_sI0, mst_sJ, mst_sJ0, uR_s, uR_o, uR_2, uR_uR, uL_s, uL_o, uL_1, up_s, up_o, mT, mN, mR, va_rf_some, litA, litB, litM, nI_add, okZ_0, okZ_1, okZ_zb, zb_0, gB_add, inb_lit, cl_lit, Nat.lt_irrefl, ↓reduceIte, if_true, if_false, RP_v, RP_n, s_of0, s_of1, s_of2, s_of3, s_of4, s_of5, hi, ek, ea, e1, e2, e3, e4, e5, e6, q3, x_swc, x_swn]
      · simp [x181_0, x181_1, x181_4, x181_6, x181_7, x181_8, x181_9, x181_12, x181_13, x181_14, x181_40, x181_41, x181_42, x181_43, x181_46, x181_47, x181_48, x181_49, x181_52, x181_54, x181_55, x181_56, x181_57, x181_60, x181_61, x181_62, x181_63, x181_64, x181_67, x181_69, x181_70, x181_71, x181_72, x181_75, x181_76, x181_77, x181_78, x181_79, rf_ref, c1_int, c1_ref, c1_UV, mst_T0, mst_I0, mst_R0, mst_J0, mst_T, mst_N, mst_I, mst_J, mst_B, mst_sI, mst_sI0, mst_sJ, mst_sJ0, uR_s, uR_o, uR_2, uR_uR, uL_s, uL_o, uL_1, up_s, up_o, mT, mN, mR, va_rf_some, litA, litB, litM, nI_add, okZ_0, okZ_1, okZ_zb, zb_0, gB_add, inb_lit, cl_lit, Nat.lt_irrefl, ↓reduceIte, if_true, if_false, RP_v, RP_n, s_of0, s_of1, s_of2, s_of3, s_of4, s_of5, hi, ek, ea, e1, e2, e3, e4, e5, e6, q1, q2, q3, x_swc, x_swn]
/-- isAhead -/
def ahB (r : Rw) (i o : Nat) : Bool := if clm r i = clm r o then decide (r (118 + 6 * i) < r (118 + 6 * o)) else decide (clm r o < clm r i)
theorem s_isAhead {i j : Nat} (hi : i < 40) (hj : j < 40) (hr : rqOK (u.1 4) i) (hs : rqOK (u.1 4) j) : XP PP (d + 2) 180 0 [.ref o, .int (nI i), .int (nI j)] [] (mst G o u) = some (.inl (some (.int (zb (ahB (u.1 4) i j)))), mst G o u) := by
  unfold ahB zb
  by_cases h : clm (u.1 4) i = clm (u.1 4) j
  · by_cases h2 : u.1 4 (118 + 6 * i) < u.1 4 (118 + 6 * j)
    · simp [x180_0, x180_1, x180_2, x180_5, x180_6, x180_7, x180_10, x180_13, x180_14, x180_15, x180_18, x180_19, x180_20, x180_23, x180_26, x180_27, x180_30, x180_31, x180_32, x180_33, x180_34, x180_35, x180_38, x180_39, x180_40, x180_41, x180_44, x180_47, x180_48, x180_51, x180_52, rf_ref, c1_int, c1_ref, c1_UV, mst_T0, mst_I0, mst_R0, mst_J0, mst_T, mst_N, mst_I, mst_J, mst_B, mst_sI, mst_sI0, mst_sJ, mst_sJ0, uR_s, uR_o, uR_2, uR_uR, uL_s, uL_o, uL_1, up_s, up_o, mT, mN, mR, va_rf_some, litA, litB, litM, nI_add, okZ_0, okZ_1, okZ_zb, zb_0, gB_add, inb_lit, cl_lit, Nat.lt_irrefl, ↓reduceIte, if_true, if_false, RP_v, RP_n, s_of0, s_of1, s_of2, s_of3, s_of4, s_of5, hi, hj, s_claimOf, hr, hs, h, h2, Int32.not_le.mpr h2]
    · simp [x180_0, x180_1, x180_2, x180_5, x180_6, x180_7, x180_10, x180_13, x180_14, x180_15, x180_18, x180_19, x180_20, x180_23, x180_26, x180_27, x180_30, x180_31, x180_32, x180_33, x180_34, x180_35, x180_38, x180_39, x180_40, x180_41, x180_44, x180_47, x180_48, x180_51, x180_52, rf_ref, c1_int, c1_ref, c1_UV, mst_T0, mst_I0, mst_R0, mst_J0, mst_T, mst_N, mst_I, mst_J, mst_B, mst_sI, mst_sI0, mst_sJ, mst_sJ0, uR_s, uR_o, uR_2, uR_uR, uL_s, uL_o, uL_1, up_s, up_o, mT, mN, mR, va_rf_some, litA, litB, litM, nI_add, okZ_0, okZ_1, okZ_zb, zb_0, gB_add, inb_lit, cl_lit, Nat.lt_irrefl, ↓reduceIte, if_true, if_false, RP_v, RP_n, s_of0, s_of1, s_of2, s_of3, s_of4, s_of5, hi, hj, s_claimOf, hr, hs, h, h2, Int32.not_lt.mp h2]
  · by_cases h2 : clm (u.1 4) j < clm (u.1 4) i
    · simp [x180_0, x180_1, x180_2, x180_5, x180_6, x180_7, x180_10, x180_13, x180_14, x180_15, x180_18, x180_19, x180_20, x180_23, x180_26, x180_27, x180_30, x180_31, x180_32, x180_33, x180_34, x180_35, x180_38, x180_39, x180_40, x180_41, x180_44, x180_47, x180_48, x180_51, x180_52, rf_ref, c1_int, c1_ref, c1_UV, mst_T0, mst_I0, mst_R0, mst_J0, mst_T, mst_N, mst_I, mst_J, mst_B, mst_sI, mst_sI0, mst_sJ, mst_sJ0, uR_s, uR_o, uR_2, uR_uR, uL_s, uL_o, uL_1, up_s, up_o, mT, mN, mR, va_rf_some, litA, litB, litM, nI_add, okZ_0, okZ_1, okZ_zb, zb_0, gB_add, inb_lit, cl_lit, Nat.lt_irrefl, ↓reduceIte, if_true, if_false, RP_v, RP_n, s_of0, s_of1, s_of2, s_of3, s_of4, s_of5, hi, hj, s_claimOf, hr, hs, h, h2, Int32.not_le.mpr h2]
    · simp [x180_0, x180_1, x180_2, x180_5, x180_6, x180_7, x180_10, x180_13, x180_14, x180_15, x180_18, x180_19, x180_20, x180_23, x180_26, x180_27, x180_30, x180_31, x180_32, x180_33, x180_34, x180_35, x180_38, x180_39, x180_40, x180_41, x180_44, x180_47, x180_48, x180_51, x180_52, rf_ref, c1_int, c1_ref, c1_UV, mst_T0, mst_I0, mst_R0, mst_J0, mst_T, mst_N, mst_I, mst_J, mst_B, mst_sI, mst_sI0, mst_sJ, mst_sJ0, uR_s, uR_o, uR_2, uR_uR, uL_s, uL_o, uL_1, up_s, up_o, mT, mN, mR, va_rf_some, litA, litB, litM, nI_add, okZ_0, okZ_1, okZ_zb, zb_0, gB_add, inb_lit, cl_lit, Nat.lt_irrefl, ↓reduceIte, if_true, if_false, RP_v, RP_n, s_of0, s_of1, s_of2, s_of3, s_of4, s_of5, hi, hj, s_claimOf, hr, hs, h, h2, Int32.not_lt.mp h2]
/-- isInLine -/
def ilB (r : Rw) (k : Int32) (i : Nat) : Bool := decide (r (118 + 6 * i + 2) = k) && wtB r i
theorem s_isInLine {i : Nat} {k : Int32} (hi : i < 40) : XP PP (d + 2) 176 0 [.ref o, .int (nI i), .int k] [] (mst G o u) = some (.inl (some (.int (zb (ilB (u.1 4) k i)))), mst G o u) := by
  unfold ilB
  by_cases h : u.1 4 (118 + 6 * i + 2) = k
  · by_cases h2 : wtB (u.1 4) i = true
    · simp [x176_0, x176_1, x176_2, x176_3, x176_6, x176_7, x176_10, x176_11, x176_12, x176_15, x176_18, x176_19, x176_22, x176_23, rf_ref, c1_int, c1_ref, c1_UV, mst_T0, mst_I0, mst_R0, mst_J0, mst_T, mst_N, mst_I, mst_J, mst_B, mst_sI, mst_sI0, mst_sJ, mst_sJ0, uR_s, uR_o, uR_2, uR_uR, uL_s, uL_o, uL_1, up_s, up_o, mT, mN, mR, va_rf_some, litA, litB, litM, nI_add, okZ_0, okZ_1, okZ_zb, zb_0, gB_add, inb_lit, cl_lit, Nat.lt_irrefl, ↓reduceIte, if_true, if_false, RP_v, RP_n, s_of0, s_of1, s_of2, s_of3, s_of4, s_of5, hi, h, h2, s_doesWait, zb]
    · simp [x176_0, x176_1, x176_2, x176_3, x176_6, x176_7, x176_10, x176_11, x176_12, x176_15, x176_18, x176_19, x176_22, x176_23, rf_ref, c1_int, c1_ref, c1_UV, mst_T0, mst_I0, mst_R0, mst_J0, mst_T, mst_N, mst_I, mst_J, mst_B, mst_sI, mst_sI0, mst_sJ, mst_sJ0, uR_s, uR_o, uR_2, uR_uR, uL_s, uL_o, uL_1, up_s, up_o, mT, mN, mR, va_rf_some, litA, litB, litM, nI_add, okZ_0, okZ_1, okZ_zb, zb_0, gB_add, inb_lit, cl_lit, Nat.lt_irrefl, ↓reduceIte, if_true, if_false, RP_v, RP_n, s_of0, s_of1, s_of2, s_of3, s_of4, s_of5, hi, h, h2, s_doesWait, zb]
  · simp [x176_0, x176_1, x176_2, x176_3, x176_6, x176_7, x176_10, x176_11, x176_12, x176_15, x176_18, x176_19, x176_22, x176_23, rf_ref, c1_int, c1_ref, c1_UV, mst_T0, mst_I0, mst_R0, mst_J0, mst_T, mst_N, mst_I, mst_J, mst_B, mst_sI, mst_sI0, mst_sJ, mst_sJ0, uR_s, uR_o, uR_2, uR_uR, uL_s, uL_o, uL_1, up_s, up_o, mT, mN, mR, va_rf_some, litA, litB, litM, nI_add, okZ_0, okZ_1, okZ_zb, zb_0, gB_add, inb_lit, cl_lit, Nat.lt_irrefl, ↓reduceIte, if_true, if_false, RP_v, RP_n, s_of0, s_of1, s_of2, s_of3, s_of4, s_of5, hi, h, zb]
end

/-! the twin: lines and votes -/
section
variable {d o : Nat} {G : Hp} {u : Mu}
set_option maxHeartbeats 4000000
def rqs (r : Rw) (n : Nat) : Prop := n ≤ 40 ∧ r 9 = nI n ∧ ∀ i, i < n → rqOK r i
/-- aheadOf -/
def afB (r : Rw) (i j : Nat) : Bool := ilB r (r (118 + 6 * i + 2)) j && ahB r j i
theorem s_aheadOf {i n : Nat} (hn : rqs (u.1 4) n) (hi : i < n) : XP PP (d + 3) 179 0 [.ref o, .int (nI i), UV, UV] [] (mst G o u) = some (.inl (some (.int (nI (cnt (afB (u.1 4) i) n)))), mst G o u) := by
  obtain ⟨hn, h9, hq⟩ := hn
  have hl : XP PP (d + 3) 179 4 [.ref o, .int (nI i), .int 0, .int 0] [] (mst G o u) = some (.inl (some (.int (nI (cnt (afB (u.1 4) i) n)))), mst G o u) := by
    refine XP_for n (fun j => [.ref o, .int (nI i), .int (nI (cnt (afB (u.1 4) i) j)), .int (nI j)]) (fun _ => mst G o u) ?_ ?_ 0 (Nat.zero_le _)
    · intro j hj
      have h1 : ¬ nI n ≤ nI j := nI_ge hj (by omega)
      refine Eq.trans (by first | exact x179_4 | exact x179_4 (rf_ref _) | exact x179_4 rfl) ?_
      by_cases q : ilB (u.1 4) (u.1 4 (118 + 6 * i + 2)) j = true
      · by_cases q2 : ahB (u.1 4) j i = true
        · simp [x179_0, x179_1, x179_2, x179_3, x179_5, x179_6, x179_9, x179_11, x179_12, x179_15, x179_16, x179_17, x179_18, x179_19, x179_20, x179_23, x179_26, x179_29, x179_30, x179_31, x179_32, x179_35, x179_38, x179_39, x179_40, x179_41, x179_42, x179_45, x179_48, x179_49, rf_ref, c1_int, c1_ref, c1_UV, mst_T0, mst_I0, mst_R0, mst_J0, mst_T, mst_N, mst_I, mst_J, mst_B, mst_sI, mst_sI0, mst_sJ, mst_sJ0, uR_s, uR_o, uR_2, uR_uR, uL_s, uL_o, uL_1, up_s, up_o, mT, mN, mR, va_rf_some, litA, litB, litM, nI_add, okZ_0, okZ_1, okZ_zb, zb_0, gB_add, inb_lit, cl_lit, Nat.lt_irrefl, ↓reduceIte, if_true, if_false, RP_v, RP_n, s_of0, s_of1, s_of2, s_of3, s_of4, s_of5, h9, h1, s_isInLine, s_isAhead, hq i hi, hq j hj, (show i < 40 by omega), (show j < 40 by omega), q, q2, cnt, afB, nI_1, zb]
        · simp [x179_0, x179_1, x179_2, x179_3, x179_5, x179_6, x179_9, x179_11, x179_12, x179_15, x179_16, x179_17, x179_18, x179_19, x179_20, x179_23, x179_26, x179_29, x179_30, x179_31, x179_32, x179_35, x179_38, x179_39, x179_40, x179_41, x179_42, x179_45, x179_48, x179_49, rf_ref, c1_int, c1_ref, c1_UV, mst_T0, mst_I0, mst_R0, mst_J0, mst_T, mst_N, mst_I, mst_J, mst_B, mst_sI, mst_sI0, mst_sJ, mst_sJ0, uR_s, uR_o, uR_2, uR_uR, uL_s, uL_o, uL_1, up_s, up_o, mT, mN, mR, va_rf_some, litA, litB, litM, nI_add, okZ_0, okZ_1, okZ_zb, zb_0, gB_add, inb_lit, cl_lit, Nat.lt_irrefl, ↓reduceIte, if_true, if_false, RP_v, RP_n, s_of0, s_of1, s_of2, s_of3, s_of4, s_of5, h9, h1, s_isInLine, s_isAhead, hq i hi, hq j hj, (show i < 40 by omega), (show j < 40 by omega), q, q2, cnt, afB, nI_1, zb]
      · simp [x179_0, x179_1, x179_2, x179_3, x179_5, x179_6, x179_9, x179_11, x179_12, x179_15, x179_16, x179_17, x179_18, x179_19, x179_20, x179_23, x179_26, x179_29, x179_30, x179_31, x179_32, x179_35, x179_38, x179_39, x179_40, x179_41, x179_42, x179_45, x179_48, x179_49, rf_ref, c1_int, c1_ref, c1_UV, mst_T0, mst_I0, mst_R0, mst_J0, mst_T, mst_N, mst_I, mst_J, mst_B, mst_sI, mst_sI0, mst_sJ, mst_sJ0, uR_s, uR_o, uR_2, uR_uR, uL_s, uL_o, uL_1, up_s, up_o, mT, mN, mR, va_rf_some, litA, litB, litM, nI_add, okZ_0, okZ_1, okZ_zb, zb_0, gB_add, inb_lit, cl_lit, Nat.lt_irrefl, ↓reduceIte, if_true, if_false, RP_v, RP_n, s_of0, s_of1, s_of2, s_of3, s_of4, s_of5, h9, h1, s_isInLine, s_isAhead, hq i hi, hq j hj, (show i < 40 by omega), (show j < 40 by omega), q, cnt, afB, nI_1, zb]
    · refine Eq.trans (by first | exact x179_4 | exact x179_4 (rf_ref _) | exact x179_4 rfl) ?_
      simp [x179_0, x179_1, x179_2, x179_3, x179_5, x179_6, x179_9, x179_11, x179_12, x179_15, x179_16, x179_17, x179_18, x179_19, x179_20, x179_23, x179_26, x179_29, x179_30, x179_31, x179_32, x179_35, x179_38, x179_39, x179_40, x179_41, x179_42, x179_45, x179_48, x179_49, rf_ref, c1_int, c1_ref, c1_UV, mst_T0, mst_I0, mst_R0, mst_J0, mst_T, mst_N, mst_I, mst_J, mst_B, mst_sI, mst_sI0, mst_sJ, mst_sJ0, uR_s, uR_o, uR_2, uR_uR, uL_s, uL_o, uL_1, up_s, up_o, mT, mN, mR, va_rf_some, litA, litB, litM, nI_add, okZ_0, okZ_1, okZ_zb, zb_0, gB_add, inb_lit, cl_lit, Nat.lt_irrefl, ↓reduceIte, if_true, if_false, RP_v, RP_n, h9]
  simp [x179_0, x179_1, x179_2, x179_3, rf_ref, c1_int, c1_ref, c1_UV, mst_T0, mst_I0, mst_R0, mst_J0, mst_T, mst_N, mst_I, mst_J, mst_B, mst_sI, mst_sI0, mst_sJ, mst_sJ0, uR_s, uR_o, uR_2, uR_uR, uL_s, uL_o, uL_1, up_s, up_o, mT, mN, mR, va_rf_some, litA, litB, litM, nI_add, okZ_0, okZ_1, okZ_zb, zb_0, gB_add, inb_lit, cl_lit, Nat.lt_irrefl, ↓reduceIte, if_true, if_false, RP_v, RP_n, hl]
/-- inLine -/
def lnB (r : Rw) (n : Nat) (k : Int32) (p : Nat) (i : Nat) : Bool := ilB r k i && decide (cnt (afB r i) n = p)
theorem s_inLine {n p : Nat} {k : Int32} (hn : rqs (u.1 4) n) (hp : p < 2 ^ 31) : XP PP (d + 4) 175 0 [.ref o, .int k, .int (nI p), UV] [] (mst G o u) = some (.inl (some (.int (oI (fst (lnB (u.1 4) n k p) n)))), mst G o u) := by
  have hr := hn
  obtain ⟨hn, h9, hq⟩ := hn
  have hl : XP PP (d + 4) 175 2 [.ref o, .int k, .int (nI p), .int 0] [] (mst G o u) = some (.inl (some (.int (oI (fst (lnB (u.1 4) n k p) n)))), mst G o u) := by
    refine (XP_fst n (lnB (u.1 4) n k p) (fun j => [.ref o, .int k, .int (nI p), .int (nI j)]) (fun _ => mst G o u) (X := some (.inl (some (.int (-1))), mst G o u)) (fun j => some (.inl (some (.int (nI j))), mst G o u)) ?_ ?_ ?_).trans ?_
    · intro j hj hp'
      have h1 : ¬ nI n ≤ nI j := nI_ge hj (by omega)
      simp only [lnB, Bool.and_eq_true, decide_eq_true_eq] at hp'
      refine Eq.trans (by first | exact x175_2 | exact x175_2 (rf_ref _) | exact x175_2 rfl) ?_
      simp [x175_0, x175_1, x175_3, x175_4, x175_7, x175_9, x175_10, x175_13, x175_14, x175_15, x175_16, x175_19, x175_22, x175_23, x175_24, x175_27, x175_28, x175_31, x175_32, x175_33, x175_36, x175_39, x175_40, rf_ref, c1_int, c1_ref, c1_UV, mst_T0, mst_I0, mst_R0, mst_J0, mst_T, mst_N, mst_I, mst_J, mst_B, mst_sI, mst_sI0, mst_sJ, mst_sJ0, uR_s, uR_o, uR_2, uR_uR, uL_s, uL_o, uL_1, up_s, up_o, mT, mN, mR, va_rf_some, litA, litB, litM, nI_add, okZ_0, okZ_1, okZ_zb, zb_0, gB_add, inb_lit, cl_lit, Nat.lt_irrefl, ↓reduceIte, if_true, if_false, RP_v, RP_n, s_of0, s_of1, s_of2, s_of3, s_of4, s_of5, h9, h1, hp'.1, hp'.2, s_isInLine, s_aheadOf hr hj, (show j < 40 by omega), zb]
    · intro j hj hp'
      have h1 : ¬ nI n ≤ nI j := nI_ge hj (by omega)
      have hc := cnt_le (afB (u.1 4) j) n
      simp only [lnB, Bool.and_eq_false_iff, decide_eq_false_iff_not] at hp'
      refine Eq.trans (by first | exact x175_2 | exact x175_2 (rf_ref _) | exact x175_2 rfl) ?_
      by_cases q : ilB (u.1 4) k j = true
      · have q2 : ¬ cnt (afB (u.1 4) j) n = p := by rcases hp' with z | z; (rw [q] at z; cases z); exact z
        have q3 : ¬ nI (cnt (afB (u.1 4) j) n) = nI p := fun z => q2 ((nI_eq (by omega) hp).mp z)
        simp [x175_0, x175_1, x175_3, x175_4, x175_7, x175_9, x175_10, x175_13, x175_14, x175_15, x175_16, x175_19, x175_22, x175_23, x175_24, x175_27, x175_28, x175_31, x175_32, x175_33, x175_36, x175_39, x175_40, rf_ref, c1_int, c1_ref, c1_UV, mst_T0, mst_I0, mst_R0, mst_J0, mst_T, mst_N, mst_I, mst_J, mst_B, mst_sI, mst_sI0, mst_sJ, mst_sJ0, uR_s, uR_o, uR_2, uR_uR, uL_s, uL_o, uL_1, up_s, up_o, mT, mN, mR, va_rf_some, litA, litB, litM, nI_add, okZ_0, okZ_1, okZ_zb, zb_0, gB_add, inb_lit, cl_lit, Nat.lt_irrefl, ↓reduceIte, if_true, if_false, RP_v, RP_n, s_of0, s_of1, s_of2, s_of3, s_of4, s_of5, h9, h1, q, q3, s_isInLine, s_aheadOf hr hj, (show j < 40 by omega), zb, nI_1]
      · simp [x175_0, x175_1, x175_3, x175_4, x175_7, x175_9, x175_10, x175_13, x175_14, x175_15, x175_16, x175_19, x175_22, x175_23, x175_24, x175_27, x175_28, x175_31, x175_32, x175_33, x175_36, x175_39, x175_40, rf_ref, c1_int, c1_ref, c1_UV, mst_T0, mst_I0, mst_R0, mst_J0, mst_T, mst_N, mst_I, mst_J, mst_B, mst_sI, mst_sI0, mst_sJ, mst_sJ0, uR_s, uR_o, uR_2, uR_uR, uL_s, uL_o, uL_1, up_s, up_o, mT, mN, mR, va_rf_some, litA, litB, litM, nI_add, okZ_0, okZ_1, okZ_zb, zb_0, gB_add, inb_lit, cl_lit, Nat.lt_irrefl, ↓reduceIte, if_true, if_false, RP_v, RP_n, s_of0, s_of1, s_of2, s_of3, s_of4, s_of5, h9, h1, q, s_isInLine, (show j < 40 by omega), zb, nI_1]
    · refine Eq.trans (by first | exact x175_2 | exact x175_2 (rf_ref _) | exact x175_2 rfl) ?_
      simp [x175_0, x175_1, x175_3, x175_4, x175_7, x175_9, x175_10, x175_13, x175_14, x175_15, x175_16, x175_19, x175_22, x175_23, x175_24, x175_27, x175_28, x175_31, x175_32, x175_33, x175_36, x175_39, x175_40, rf_ref, c1_int, c1_ref, c1_UV, mst_T0, mst_I0, mst_R0, mst_J0, mst_T, mst_N, mst_I, mst_J, mst_B, mst_sI, mst_sI0, mst_sJ, mst_sJ0, uR_s, uR_o, uR_2, uR_uR, uL_s, uL_o, uL_1, up_s, up_o, mT, mN, mR, va_rf_some, litA, litB, litM, nI_add, okZ_0, okZ_1, okZ_zb, zb_0, gB_add, inb_lit, cl_lit, Nat.lt_irrefl, ↓reduceIte, if_true, if_false, RP_v, RP_n, h9]
    · cases fst (lnB (u.1 4) n k p) n <;> rfl
  simp [x175_0, x175_1, rf_ref, c1_int, c1_ref, c1_UV, mst_T0, mst_I0, mst_R0, mst_J0, mst_T, mst_N, mst_I, mst_J, mst_B, mst_sI, mst_sI0, mst_sJ, mst_sJ0, uR_s, uR_o, uR_2, uR_uR, uL_s, uL_o, uL_1, up_s, up_o, mT, mN, mR, va_rf_some, litA, litB, litM, nI_add, okZ_0, okZ_1, okZ_zb, zb_0, gB_add, inb_lit, cl_lit, Nat.lt_irrefl, ↓reduceIte, if_true, if_false, RP_v, RP_n, hl]
theorem s_inLine0 {n : Nat} {k : Int32} (hn : rqs (u.1 4) n) : XP PP (d + 4) 175 0 [.ref o, .int k, .int 0, UV] [] (mst G o u) = some (.inl (some (.int (oI (fst (lnB (u.1 4) n k 0) n)))), mst G o u) := s_inLine (p := 0) hn (by omega)
/-- counts: not left out, not silent -/
def cnB (c r : Rw) (a : Nat) : Bool := decide (¬ nI a = c 19) && decide (r (36 + a) < c 7)
theorem s_counts {a : Nat} (ha : a < 8) : XP PP d 162 0 [.ref o, .int (nI a)] [] (mst G o u) = some (.inl (some (.int (zb (cnB (u.1 0) (u.1 4) a)))), mst G o u) := by
  have e1 : inb (nI (36 + a)) 718 = true := inb_nI (by omega) (by omega)
  have e2 : (nI (36 + a)).toNatClampNeg = 36 + a := nI_clamp (by omega)
  unfold cnB zb
  by_cases h1 : nI a = u.1 0 19
  · simp [x162_0, x162_1, x162_2, x162_5, x162_8, x162_9, x162_12, x162_14, x162_15, x162_16, x162_17, x162_18, x162_21, x162_24, x162_25, x162_28, x162_29, rf_ref, c1_int, c1_ref, c1_UV, mst_T0, mst_I0, mst_R0, mst_J0, mst_T, mst_N, mst_I, mst_J, mst_B, mst_sI, mst_sI0, mst_sJ, mst_sJ0, uR_s, uR_o, uR_2, uR_uR, uL_s, uL_o, uL_1, up_s, up_o, mT, mN, mR, va_rf_some, litA, litB, litM, nI_add, okZ_0, okZ_1, okZ_zb, zb_0, gB_add, inb_lit, cl_lit, Nat.lt_irrefl, ↓reduceIte, if_true, if_false, RP_v, RP_n, h1]
  · by_cases h2 : u.1 4 (36 + a) < u.1 0 7
    · simp [x162_0, x162_1, x162_2, x162_5, x162_8, x162_9, x162_12, x162_14, x162_15, x162_16, x162_17, x162_18, x162_21, x162_24, x162_25, x162_28, x162_29, rf_ref, c1_int, c1_ref, c1_UV, mst_T0, mst_I0, mst_R0, mst_J0, mst_T, mst_N, mst_I, mst_J, mst_B, mst_sI, mst_sI0, mst_sJ, mst_sJ0, uR_s, uR_o, uR_2, uR_uR, uL_s, uL_o, uL_1, up_s, up_o, mT, mN, mR, va_rf_some, litA, litB, litM, nI_add, okZ_0, okZ_1, okZ_zb, zb_0, gB_add, inb_lit, cl_lit, Nat.lt_irrefl, ↓reduceIte, if_true, if_false, RP_v, RP_n, h1, h2, e1, e2, Int32.not_le.mpr h2]
    · simp [x162_0, x162_1, x162_2, x162_5, x162_8, x162_9, x162_12, x162_14, x162_15, x162_16, x162_17, x162_18, x162_21, x162_24, x162_25, x162_28, x162_29, rf_ref, c1_int, c1_ref, c1_UV, mst_T0, mst_I0, mst_R0, mst_J0, mst_T, mst_N, mst_I, mst_J, mst_B, mst_sI, mst_sI0, mst_sJ, mst_sJ0, uR_s, uR_o, uR_2, uR_uR, uL_s, uL_o, uL_1, up_s, up_o, mT, mN, mR, va_rf_some, litA, litB, litM, nI_add, okZ_0, okZ_1, okZ_zb, zb_0, gB_add, inb_lit, cl_lit, Nat.lt_irrefl, ↓reduceIte, if_true, if_false, RP_v, RP_n, h1, h2, e1, e2, Int32.not_lt.mp h2]
theorem s_onBallot {a p : Nat} (ha : a < 8) (hp : p < 5) : XP PP d 165 0 [.ref o, .int (nI a), .int (nI p)] [] (mst G o u) = some (.inl (some (.int (u.1 4 (78 + 5 * a + p)))), mst G o u) := by
  have e1 : inb (nI (78 + 5 * a + p)) 718 = true := inb_nI (by omega) (by omega)
  have e2 : (nI (78 + 5 * a + p)).toNatClampNeg = 78 + 5 * a + p := nI_clamp (by omega)
  simp [x165_0, x165_1, x165_4, x165_6, x165_7, x165_8, x165_9, x165_10, x165_11, x165_12, x165_13, rf_ref, c1_int, c1_ref, c1_UV, mst_T0, mst_I0, mst_R0, mst_J0, mst_T, mst_N, mst_I, mst_J, mst_B, mst_sI, mst_sI0, mst_sJ, mst_sJ0, uR_s, uR_o, uR_2, uR_uR, uL_s, uL_o, uL_1, up_s, up_o, mT, mN, mR, va_rf_some, litA, litB, litM, nI_add, okZ_0, okZ_1, okZ_zb, zb_0, gB_add, inb_lit, cl_lit, Nat.lt_irrefl, ↓reduceIte, if_true, if_false, RP_v, RP_n, e1, e2]
/-- doesAnyCount -/
theorem s_doesAnyCount {A : Nat} (hA : u.1 0 2 = nI A) (hA8 : A ≤ 8) : XP PP (d + 1) 161 0 [.ref o, UV] [] (mst G o u) = some (.inl (some (.int (zb (fst (cnB (u.1 0) (u.1 4)) A).isSome))), mst G o u) := by
  have hl : XP PP (d + 1) 161 2 [.ref o, .int 0] [] (mst G o u) = some (.inl (some (.int (zb (fst (cnB (u.1 0) (u.1 4)) A).isSome))), mst G o u) := by
    refine (XP_fst A (cnB (u.1 0) (u.1 4)) (fun j => [.ref o, .int (nI j)]) (fun _ => mst G o u) (X := some (.inl (some (.int 0)), mst G o u)) (fun j => some (.inl (some (.int 1)), mst G o u)) ?_ ?_ ?_).trans ?_
    · intro j hj hp
      have h1 : ¬ nI A ≤ nI j := nI_ge hj (by omega)
      refine Eq.trans (by first | exact x161_2 | exact x161_2 (rf_ref _) | exact x161_2 rfl) ?_
      simp [x161_0, x161_1, x161_3, x161_4, x161_7, x161_10, x161_11, x161_12, x161_15, x161_18, x161_19, x161_20, x161_23, x161_26, x161_27, rf_ref, c1_int, c1_ref, c1_UV, mst_T0, mst_I0, mst_R0, mst_J0, mst_T, mst_N, mst_I, mst_J, mst_B, mst_sI, mst_sI0, mst_sJ, mst_sJ0, uR_s, uR_o, uR_2, uR_uR, uL_s, uL_o, uL_1, up_s, up_o, mT, mN, mR, va_rf_some, litA, litB, litM, nI_add, okZ_0, okZ_1, okZ_zb, zb_0, gB_add, inb_lit, cl_lit, Nat.lt_irrefl, ↓reduceIte, if_true, if_false, RP_v, RP_n, hA, h1, hp, s_counts, (show j < 8 by omega), zb]
    · intro j hj hp
      have h1 : ¬ nI A ≤ nI j := nI_ge hj (by omega)
      refine Eq.trans (by first | exact x161_2 | exact x161_2 (rf_ref _) | exact x161_2 rfl) ?_
      simp [x161_0, x161_1, x161_3, x161_4, x161_7, x161_10, x161_11, x161_12, x161_15, x161_18, x161_19, x161_20, x161_23, x161_26, x161_27, rf_ref, c1_int, c1_ref, c1_UV, mst_T0, mst_I0, mst_R0, mst_J0, mst_T, mst_N, mst_I, mst_J, mst_B, mst_sI, mst_sI0, mst_sJ, mst_sJ0, uR_s, uR_o, uR_2, uR_uR, uL_s, uL_o, uL_1, up_s, up_o, mT, mN, mR, va_rf_some, litA, litB, litM, nI_add, okZ_0, okZ_1, okZ_zb, zb_0, gB_add, inb_lit, cl_lit, Nat.lt_irrefl, ↓reduceIte, if_true, if_false, RP_v, RP_n, hA, h1, hp, s_counts, (show j < 8 by omega), zb, nI_1]
    · refine Eq.trans (by first | exact x161_2 | exact x161_2 (rf_ref _) | exact x161_2 rfl) ?_
      simp [x161_0, x161_1, x161_3, x161_4, x161_7, x161_10, x161_11, x161_12, x161_15, x161_18, x161_19, x161_20, x161_23, x161_26, x161_27, rf_ref, c1_int, c1_ref, c1_UV, mst_T0, mst_I0, mst_R0, mst_J0, mst_T, mst_N, mst_I, mst_J, mst_B, mst_sI, mst_sI0, mst_sJ, mst_sJ0, uR_s, uR_o, uR_2, uR_uR, uL_s, uL_o, uL_1, up_s, up_o, mT, mN, mR, va_rf_some, litA, litB, litM, nI_add, okZ_0, okZ_1, okZ_zb, zb_0, gB_add, inb_lit, cl_lit, Nat.lt_irrefl, ↓reduceIte, if_true, if_false, RP_v, RP_n, hA]
    · cases fst (cnB (u.1 0) (u.1 4)) A <;> rfl
  simp [x161_0, x161_1, rf_ref, c1_int, c1_ref, c1_UV, mst_T0, mst_I0, mst_R0, mst_J0, mst_T, mst_N, mst_I, mst_J, mst_B, mst_sI, mst_sI0, mst_sJ, mst_sJ0, uR_s, uR_o, uR_2, uR_uR, uL_s, uL_o, uL_1, up_s, up_o, mT, mN, mR, va_rf_some, litA, litB, litM, nI_add, okZ_0, okZ_1, okZ_zb, zb_0, gB_add, inb_lit, cl_lit, Nat.lt_irrefl, ↓reduceIte, if_true, if_false, RP_v, RP_n, hl]
/-- the place of a class on a row of a ballot -/
def plc (f : Rw) (k : Int32) : Nat := (fst (fun p => decide (f p = k)) 5).getD 5
def bal (r : Rw) (a : Nat) : Rw := fun p => r (78 + 5 * a + p)
theorem plc_spec {f : Rw} {k : Int32} (h : ∃ p, p < 5 ∧ f p = k) : plc f k < 5 ∧ f (plc f k) = k ∧ ∀ q, q < plc f k → ¬ f q = k := by
  unfold plc
  cases e : fst (fun p => decide (f p = k)) 5 with
  | none =>
    obtain ⟨p, hp, e2⟩ := h
    have := fst_none e p hp
    exact absurd e2 (of_decide_eq_false this)
  | some j =>
    obtain ⟨a, b, c⟩ := fst_spec e
    exact ⟨a, of_decide_eq_true b, fun q hq => of_decide_eq_false (c q hq)⟩
theorem s_placeOf {a : Nat} {k : Int32} (ha : a < 8) (h : ∃ p, p < 5 ∧ bal (u.1 4) a p = k) : XP PP (d + 1) 169 0 [.ref o, .int (nI a), .int k, UV] [] (mst G o u) = some (.inl (some (.int (nI (plc (bal (u.1 4) a) k)))), mst G o u) := by
  obtain ⟨h1, h2, h3⟩ := plc_spec h
  generalize plc (bal (u.1 4) a) k = n at h1 h2 h3
  have hl : XP PP (d + 1) 169 2 [.ref o, .int (nI a), .int k, .int 0] [] (mst G o u) = some (.inl (some (.int (nI n))), mst G o u) := by
    refine XP_for n (fun j => [.ref o, .int (nI a), .int k, .int (nI j)]) (fun _ => mst G o u) ?_ ?_ 0 (Nat.zero_le _)
    · intro j hj
      have e := h3 j hj
      unfold bal at e
      refine Eq.trans (by first | exact x169_2 | exact x169_2 (rf_ref _) | exact x169_2 rfl) ?_
      simp [x169_0, x169_1, x169_3, x169_4, x169_5, x169_8, x169_9, x169_12, x169_13, x169_14, x169_15, x169_16, x169_19, x169_20, rf_ref, c1_int, c1_ref, c1_UV, mst_T0, mst_I0, mst_R0, mst_J0, mst_T, mst_N, mst_I, mst_J, mst_B, mst_sI, mst_sI0, mst_sJ, mst_sJ0, uR_s, uR_o, uR_2, uR_uR, uL_s, uL_o, uL_1, up_s, up_o, mT, mN, mR, va_rf_some, litA, litB, litM, nI_add, okZ_0, okZ_1, okZ_zb, zb_0, gB_add, inb_lit, cl_lit, Nat.lt_irrefl, ↓reduceIte, if_true, if_false, RP_v, RP_n, s_onBallot ha (show j < 5 by omega), e, nI_1]
    · unfold bal at h2
      refine Eq.trans (by first | exact x169_2 | exact x169_2 (rf_ref _) | exact x169_2 rfl) ?_
      simp [x169_0, x169_1, x169_3, x169_4, x169_5, x169_8, x169_9, x169_12, x169_13, x169_14, x169_15, x169_16, x169_19, x169_20, rf_ref, c1_int, c1_ref, c1_UV, mst_T0, mst_I0, mst_R0, mst_J0, mst_T, mst_N, mst_I, mst_J, mst_B, mst_sI, mst_sI0, mst_sJ, mst_sJ0, uR_s, uR_o, uR_2, uR_uR, uL_s, uL_o, uL_1, up_s, up_o, mT, mN, mR, va_rf_some, litA, litB, litM, nI_add, okZ_0, okZ_1, okZ_zb, zb_0, gB_add, inb_lit, cl_lit, Nat.lt_irrefl, ↓reduceIte, if_true, if_false, RP_v, RP_n, s_onBallot ha h1, h2]
  simp [x169_0, x169_1, rf_ref, c1_int, c1_ref, c1_UV, mst_T0, mst_I0, mst_R0, mst_J0, mst_T, mst_N, mst_I, mst_J, mst_B, mst_sI, mst_sI0, mst_sJ, mst_sJ0, uR_s, uR_o, uR_2, uR_uR, uL_s, uL_o, uL_1, up_s, up_o, mT, mN, mR, va_rf_some, litA, litB, litM, nI_add, okZ_0, okZ_1, okZ_zb, zb_0, gB_add, inb_lit, cl_lit, Nat.lt_irrefl, ↓reduceIte, if_true, if_false, RP_v, RP_n, hl]
/-- the world of a vote: classes, askers, ballots -/
def VW (c r : Rw) (K A : Nat) : Prop := c 1 = nI K ∧ K ≤ 5 ∧ c 2 = nI A ∧ A ≤ 8 ∧ ∀ a, a < A → ∀ k, k < K → ∃ p, p < 5 ∧ bal r a p = nI k
def pts (c w r : Rw) (K A k : Nat) : Int32 := sm (fun a => if cnB c r a = true then w a * (nI K - 1 - nI (plc (bal r a) (nI k))) else 0) A
theorem s_pointsOf {K A k : Nat} (hV : VW (u.1 0) (u.1 4) K A) (hk : k < K) : XP PP (d + 2) 170 0 [.ref o, .int (nI k), UV, UV] [] (mst G o u) = some (.inl (some (.int (pts (u.1 0) (u.1 1) (u.1 4) K A k))), mst G o u) := by
  obtain ⟨h1, h2, h3, h4, h5⟩ := hV
  have hl : XP PP (d + 2) 170 4 [.ref o, .int (nI k), .int 0, .int 0] [] (mst G o u) = some (.inl (some (.int (pts (u.1 0) (u.1 1) (u.1 4) K A k))), mst G o u) := by
    refine XP_for A (fun j => [.ref o, .int (nI k), .int (pts (u.1 0) (u.1 1) (u.1 4) K j k), .int (nI j)]) (fun _ => mst G o u) ?_ ?_ 0 (Nat.zero_le _)
    · intro j hj
      have e1 : ¬ nI A ≤ nI j := nI_ge hj (by omega)
      have e2 : inb (nI j) 8 = true := inb_nI (by omega) (by omega)
      have e3 : (nI j).toNatClampNeg = j := nI_clamp (by omega)
      refine Eq.trans (by first | exact x170_4 | exact x170_4 (rf_ref _) | exact x170_4 rfl) ?_
      by_cases q : cnB (u.1 0) (u.1 4) j = true
      · simp [x170_0, x170_1, x170_2, x170_3, x170_5, x170_6, x170_9, x170_12, x170_13, x170_14, x170_17, x170_20, x170_21, x170_22, x170_25, x170_26, x170_27, x170_28, x170_31, x170_32, x170_33, x170_34, x170_35, x170_36, x170_39, x170_40, x170_41, x170_42, x170_43, x170_46, x170_49, x170_50, rf_ref, c1_int, c1_ref, c1_UV, mst_T0, mst_I0, mst_R0, mst_J0, mst_T, mst_N, mst_I, mst_J, mst_B, mst_sI, mst_sI0, mst_sJ, mst_sJ0, uR_s, uR_o, uR_2, uR_uR, uL_s, uL_o, uL_1, up_s, up_o, mT, mN, mR, va_rf_some, litA, litB, litM, nI_add, okZ_0, okZ_1, okZ_zb, zb_0, gB_add, inb_lit, cl_lit, Nat.lt_irrefl, ↓reduceIte, if_true, if_false, RP_v, RP_n, h1, h3, e1, e2, e3, s_counts, s_placeOf (show j < 8 by omega) (h5 j hj k hk), (show j < 8 by omega), q, pts, sm, nI_1, zb]
      · simp [x170_0, x170_1, x170_2, x170_3, x170_5, x170_6, x170_9, x170_12, x170_13, x170_14, x170_17, x170_20, x170_21, x170_22, x170_25, x170_26, x170_27, x170_28, x170_31, x170_32, x170_33, x170_34, x170_35, x170_36, x170_39, x170_40, x170_41, x170_42, x170_43, x170_46, x170_49, x170_50, rf_ref, c1_int, c1_ref, c1_UV, mst_T0, mst_I0, mst_R0, mst_J0, mst_T, mst_N, mst_I, mst_J, mst_B, mst_sI, mst_sI0, mst_sJ, mst_sJ0, uR_s, uR_o, uR_2, uR_uR, uL_s, uL_o, uL_1, up_s, up_o, mT, mN, mR, va_rf_some, litA, litB, litM, nI_add, okZ_0, okZ_1, okZ_zb, zb_0, gB_add, inb_lit, cl_lit, Nat.lt_irrefl, ↓reduceIte, if_true, if_false, RP_v, RP_n, h1, h3, e1, e2, e3, s_counts, (show j < 8 by omega), q, pts, sm, nI_1, zb]
    · refine Eq.trans (by first | exact x170_4 | exact x170_4 (rf_ref _) | exact x170_4 rfl) ?_
      simp [x170_0, x170_1, x170_2, x170_3, x170_5, x170_6, x170_9, x170_12, x170_13, x170_14, x170_17, x170_20, x170_21, x170_22, x170_25, x170_26, x170_27, x170_28, x170_31, x170_32, x170_33, x170_34, x170_35, x170_36, x170_39, x170_40, x170_41, x170_42, x170_43, x170_46, x170_49, x170_50, rf_ref, c1_int, c1_ref, c1_UV, mst_T0, mst_I0, mst_R0, mst_J0, mst_T, mst_N, mst_I, mst_J, mst_B, mst_sI, mst_sI0, mst_sJ, mst_sJ0, uR_s, uR_o, uR_2, uR_uR, uL_s, uL_o, uL_1, up_s, up_o, mT, mN, mR, va_rf_some, litA, litB, litM, nI_add, okZ_0, okZ_1, okZ_zb, zb_0, gB_add, inb_lit, cl_lit, Nat.lt_irrefl, ↓reduceIte, if_true, if_false, RP_v, RP_n, h3]
  simp [x170_0, x170_1, x170_2, x170_3, rf_ref, c1_int, c1_ref, c1_UV, mst_T0, mst_I0, mst_R0, mst_J0, mst_T, mst_N, mst_I, mst_J, mst_B, mst_sI, mst_sI0, mst_sJ, mst_sJ0, uR_s, uR_o, uR_2, uR_uR, uL_s, uL_o, uL_1, up_s, up_o, mT, mN, mR, va_rf_some, litA, litB, litM, nI_add, okZ_0, okZ_1, okZ_zb, zb_0, gB_add, inb_lit, cl_lit, Nat.lt_irrefl, ↓reduceIte, if_true, if_false, RP_v, RP_n, hl]
def fis (c w r : Rw) (A k p : Nat) : Int32 := sm (fun a => if cnB c r a = true ∧ bal r a p = nI k then w a else 0) A
theorem s_firstsOf {K A k p : Nat} (hV : VW (u.1 0) (u.1 4) K A) (hp : p < 5) : XP PP (d + 1) 164 0 [.ref o, .int (nI k), .int (nI p), UV, UV] [] (mst G o u) = some (.inl (some (.int (fis (u.1 0) (u.1 1) (u.1 4) A k p))), mst G o u) := by
  obtain ⟨h1, h2, h3, h4, h5⟩ := hV
  have hl : XP PP (d + 1) 164 5 [.ref o, .int (nI k), .int (nI p), .int 0, .int 0] [] (mst G o u) = some (.inl (some (.int (fis (u.1 0) (u.1 1) (u.1 4) A k p))), mst G o u) := by
    refine XP_for A (fun j => [.ref o, .int (nI k), .int (nI p), .int (fis (u.1 0) (u.1 1) (u.1 4) j k p), .int (nI j)]) (fun _ => mst G o u) ?_ ?_ 0 (Nat.zero_le _)
    · intro j hj
      have e1 : ¬ nI A ≤ nI j := nI_ge hj (by omega)
      have e2 : inb (nI j) 8 = true := inb_nI (by omega) (by omega)
      have e3 : (nI j).toNatClampNeg = j := nI_clamp (by omega)
      refine Eq.trans (by first | exact x164_5 | exact x164_5 (rf_ref _) | exact x164_5 rfl) ?_
      by_cases q : cnB (u.1 0) (u.1 4) j = true
      · by_cases q2 : u.1 4 (78 + 5 * j + p) = nI k
        · simp [x164_0, x164_1, x164_2, x164_3, x164_7, x164_8, x164_11, x164_14, x164_15, x164_17, x164_20, x164_23, x164_24, x164_26, x164_27, x164_30, x164_31, x164_34, x164_35, x164_36, x164_39, x164_41, x164_42, x164_43, x164_44, x164_47, x164_50, x164_51, rf_ref, c1_int, c1_ref, c1_UV, mst_T0, mst_I0, mst_R0, mst_J0, mst_T, mst_N, mst_I, mst_J, mst_B, mst_sI, mst_sI0, mst_sJ, mst_sJ0, uR_s, uR_o, uR_2, uR_uR, uL_s, uL_o, uL_1, up_s, up_o, mT, mN, mR, va_rf_some, litA, litB, litM, nI_add, okZ_0, okZ_1, okZ_zb, zb_0, gB_add, inb_lit, cl_lit, Nat.lt_irrefl, ↓reduceIte, if_true, if_false, RP_v, RP_n, h1, h3, e1, e2, e3, s_counts, s_onBallot (show j < 8 by omega) hp, (show j < 8 by omega), q, q2, fis, bal, sm, nI_1, zb]
        · simp [x164_0, x164_1, x164_2, x164_3, x164_7, x164_8, x164_11, x164_14, x164_15, x164_17, x164_20, x164_23, x164_24, x164_26, x164_27, x164_30, x164_31, x164_34, x164_35, x164_36, x164_39, x164_41, x164_42, x164_43, x164_44, x164_47, x164_50, x164_51, rf_ref, c1_int, c1_ref, c1_UV, mst_T0, mst_I0, mst_R0, mst_J0, mst_T, mst_N, mst_I, mst_J, mst_B, mst_sI, mst_sI0, mst_sJ, mst_sJ0, uR_s, uR_o, uR_2, uR_uR, uL_s, uL_o, uL_1, up_s, up_o, mT, mN, mR, va_rf_some, litA, litB, litM, nI_add, okZ_0, okZ_1, okZ_zb, zb_0, gB_add, inb_lit, cl_lit, Nat.lt_irrefl, ↓reduceIte, if_true, if_false, RP_v, RP_n, h1, h3, e1, e2, e3, s_counts, s_onBallot (show j < 8 by omega) hp, (show j < 8 by omega), q, q2, fis, bal, sm, nI_1, zb]
      · simp [x164_0, x164_1, x164_2, x164_3, x164_7, x164_8, x164_11, x164_14, x164_15, x164_17, x164_20, x164_23, x164_24, x164_26, x164_27, x164_30, x164_31, x164_34, x164_35, x164_36, x164_39, x164_41, x164_42, x164_43, x164_44, x164_47, x164_50, x164_51, rf_ref, c1_int, c1_ref, c1_UV, mst_T0, mst_I0, mst_R0, mst_J0, mst_T, mst_N, mst_I, mst_J, mst_B, mst_sI, mst_sI0, mst_sJ, mst_sJ0, uR_s, uR_o, uR_2, uR_uR, uL_s, uL_o, uL_1, up_s, up_o, mT, mN, mR, va_rf_some, litA, litB, litM, nI_add, okZ_0, okZ_1, okZ_zb, zb_0, gB_add, inb_lit, cl_lit, Nat.lt_irrefl, ↓reduceIte, if_true, if_false, RP_v, RP_n, h1, h3, e1, e2, e3, s_counts, (show j < 8 by omega), q, fis, sm, nI_1, zb]
    · refine Eq.trans (by first | exact x164_5 | exact x164_5 (rf_ref _) | exact x164_5 rfl) ?_
      simp [x164_0, x164_1, x164_2, x164_3, x164_7, x164_8, x164_11, x164_14, x164_15, x164_17, x164_20, x164_23, x164_24, x164_26, x164_27, x164_30, x164_31, x164_34, x164_35, x164_36, x164_39, x164_41, x164_42, x164_43, x164_44, x164_47, x164_50, x164_51, rf_ref, c1_int, c1_ref, c1_UV, mst_T0, mst_I0, mst_R0, mst_J0, mst_T, mst_N, mst_I, mst_J, mst_B, mst_sI, mst_sI0, mst_sJ, mst_sJ0, uR_s, uR_o, uR_2, uR_uR, uL_s, uL_o, uL_1, up_s, up_o, mT, mN, mR, va_rf_some, litA, litB, litM, nI_add, okZ_0, okZ_1, okZ_zb, zb_0, gB_add, inb_lit, cl_lit, Nat.lt_irrefl, ↓reduceIte, if_true, if_false, RP_v, RP_n, h3]
  simp [x164_0, x164_1, x164_2, x164_3, rf_ref, c1_int, c1_ref, c1_UV, mst_T0, mst_I0, mst_R0, mst_J0, mst_T, mst_N, mst_I, mst_J, mst_B, mst_sI, mst_sI0, mst_sJ, mst_sJ0, uR_s, uR_o, uR_2, uR_uR, uL_s, uL_o, uL_1, up_s, up_o, mT, mN, mR, va_rf_some, litA, litB, litM, nI_add, okZ_0, okZ_1, okZ_zb, zb_0, gB_add, inb_lit, cl_lit, Nat.lt_irrefl, ↓reduceIte, if_true, if_false, RP_v, RP_n, hl]
def led (c w r : Rw) (A k l : Nat) : Int32 := sm (fun a => if cnB c r a = true then (if plc (bal r a) (nI k) < plc (bal r a) (nI l) then w a else - w a) else 0) A
theorem s_leadOf {K A k l : Nat} (hV : VW (u.1 0) (u.1 4) K A) (hk : k < K) (hkl : l < K) : XP PP (d + 2) 168 0 [.ref o, .int (nI k), .int (nI l), UV, UV] [] (mst G o u) = some (.inl (some (.int (led (u.1 0) (u.1 1) (u.1 4) A k l))), mst G o u) := by
  obtain ⟨h1, h2, h3, h4, h5⟩ := hV
  have hl : XP PP (d + 2) 168 5 [.ref o, .int (nI k), .int (nI l), .int 0, .int 0] [] (mst G o u) = some (.inl (some (.int (led (u.1 0) (u.1 1) (u.1 4) A k l))), mst G o u) := by
    refine XP_for A (fun j => [.ref o, .int (nI k), .int (nI l), .int (led (u.1 0) (u.1 1) (u.1 4) j k l), .int (nI j)]) (fun _ => mst G o u) ?_ ?_ 0 (Nat.zero_le _)
    · intro j hj
      have e1 : ¬ nI A ≤ nI j := nI_ge hj (by omega)
      have e2 : inb (nI j) 8 = true := inb_nI (by omega) (by omega)
      have e3 : (nI j).toNatClampNeg = j := nI_clamp (by omega)
      have z1 := (plc_spec (h5 j hj k hk)).1
      have z2 := (plc_spec (h5 j hj l hkl)).1
      have e4 : (nI (plc (bal (u.1 4) j) (nI l)) ≤ nI (plc (bal (u.1 4) j) (nI k))) ↔ _ := nI_leI (by omega) (by omega)
      refine Eq.trans (by first | exact x168_5 | exact x168_5 (rf_ref _) | exact x168_5 rfl) ?_
      by_cases q : cnB (u.1 0) (u.1 4) j = true
      · by_cases q2 : plc (bal (u.1 4) j) (nI k) < plc (bal (u.1 4) j) (nI l)
        · simp [x168_0, x168_1, x168_2, x168_3, x168_7, x168_8, x168_11, x168_14, x168_15, x168_17, x168_20, x168_23, x168_26, x168_27, x168_28, x168_30, x168_31, x168_34, x168_35, x168_37, x168_38, x168_41, x168_44, x168_45, x168_48, x168_50, x168_51, x168_54, x168_55, x168_58, x168_60, x168_61, x168_62, x168_63, x168_64, x168_67, x168_70, x168_71, rf_ref, c1_int, c1_ref, c1_UV, mst_T0, mst_I0, mst_R0, mst_J0, mst_T, mst_N, mst_I, mst_J, mst_B, mst_sI, mst_sI0, mst_sJ, mst_sJ0, uR_s, uR_o, uR_2, uR_uR, uL_s, uL_o, uL_1, up_s, up_o, mT, mN, mR, va_rf_some, litA, litB, litM, nI_add, okZ_0, okZ_1, okZ_zb, zb_0, gB_add, inb_lit, cl_lit, Nat.lt_irrefl, ↓reduceIte, if_true, if_false, RP_v, RP_n, h1, h3, e1, e2, e3, s_counts, s_placeOf (show j < 8 by omega) (h5 j hj k hk), s_placeOf (show j < 8 by omega) (h5 j hj l hkl), (show j < 8 by omega), q, e4, q2, Nat.not_le.mpr q2, led, sm, nI_1, zb]
        · simp [x168_0, x168_1, x168_2, x168_3, x168_7, x168_8, x168_11, x168_14, x168_15, x168_17, x168_20, x168_23, x168_26, x168_27, x168_28, x168_30, x168_31, x168_34, x168_35, x168_37, x168_38, x168_41, x168_44, x168_45, x168_48, x168_50, x168_51, x168_54, x168_55, x168_58, x168_60, x168_61, x168_62, x168_63, x168_64, x168_67, x168_70, x168_71, rf_ref, c1_int, c1_ref, c1_UV, mst_T0, mst_I0, mst_R0, mst_J0, mst_T, mst_N, mst_I, mst_J, mst_B, mst_sI, mst_sI0, mst_sJ, mst_sJ0, uR_s, uR_o, uR_2, uR_uR, uL_s, uL_o, uL_1, up_s, up_o, mT, mN, mR, va_rf_some, litA, litB, litM, nI_add, okZ_0, okZ_1, okZ_zb, zb_0, gB_add, inb_lit, cl_lit, Nat.lt_irrefl, ↓reduceIte, if_true, if_false, RP_v, RP_n, h1, h3, e1, e2, e3, s_counts, s_placeOf (show j < 8 by omega) (h5 j hj k hk), s_placeOf (show j < 8 by omega) (h5 j hj l hkl), (show j < 8 by omega), q, e4, q2, Nat.not_lt.mp q2, led, sm, nI_1, zb]
      · simp [x168_0, x168_1, x168_2, x168_3, x168_7, x168_8, x168_11, x168_14, x168_15, x168_17, x168_20, x168_23, x168_26, x168_27, x168_28, x168_30, x168_31, x168_34, x168_35, x168_37, x168_38, x168_41, x168_44, x168_45, x168_48, x168_50, x168_51, x168_54, x168_55, x168_58, x168_60, x168_61, x168_62, x168_63, x168_64, x168_67, x168_70, x168_71, rf_ref, c1_int, c1_ref, c1_UV, mst_T0, mst_I0, mst_R0, mst_J0, mst_T, mst_N, mst_I, mst_J, mst_B, mst_sI, mst_sI0, mst_sJ, mst_sJ0, uR_s, uR_o, uR_2, uR_uR, uL_s, uL_o, uL_1, up_s, up_o, mT, mN, mR, va_rf_some, litA, litB, litM, nI_add, okZ_0, okZ_1, okZ_zb, zb_0, gB_add, inb_lit, cl_lit, Nat.lt_irrefl, ↓reduceIte, if_true, if_false, RP_v, RP_n, h1, h3, e1, e2, e3, s_counts, (show j < 8 by omega), q, led, sm, nI_1, zb]
    · refine Eq.trans (by first | exact x168_5 | exact x168_5 (rf_ref _) | exact x168_5 rfl) ?_
      simp [x168_0, x168_1, x168_2, x168_3, x168_7, x168_8, x168_11, x168_14, x168_15, x168_17, x168_20, x168_23, x168_26, x168_27, x168_28, x168_30, x168_31, x168_34, x168_35, x168_37, x168_38, x168_41, x168_44, x168_45, x168_48, x168_50, x168_51, x168_54, x168_55, x168_58, x168_60, x168_61, x168_62, x168_63, x168_64, x168_67, x168_70, x168_71, rf_ref, c1_int, c1_ref, c1_UV, mst_T0, mst_I0, mst_R0, mst_J0, mst_T, mst_N, mst_I, mst_J, mst_B, mst_sI, mst_sI0, mst_sJ, mst_sJ0, uR_s, uR_o, uR_2, uR_uR, uL_s, uL_o, uL_1, up_s, up_o, mT, mN, mR, va_rf_some, litA, litB, litM, nI_add, okZ_0, okZ_1, okZ_zb, zb_0, gB_add, inb_lit, cl_lit, Nat.lt_irrefl, ↓reduceIte, if_true, if_false, RP_v, RP_n, h3]
  simp [x168_0, x168_1, x168_2, x168_3, rf_ref, c1_int, c1_ref, c1_UV, mst_T0, mst_I0, mst_R0, mst_J0, mst_T, mst_N, mst_I, mst_J, mst_B, mst_sI, mst_sI0, mst_sJ, mst_sJ0, uR_s, uR_o, uR_2, uR_uR, uL_s, uL_o, uL_1, up_s, up_o, mT, mN, mR, va_rf_some, litA, litB, litM, nI_add, okZ_0, okZ_1, okZ_zb, zb_0, gB_add, inb_lit, cl_lit, Nat.lt_irrefl, ↓reduceIte, if_true, if_false, RP_v, RP_n, hl]
def bts (c w r : Rw) (A k l : Nat) : Bool := decide (¬ k = l) && decide (0 < led c w r A k l)
theorem s_doesBeat {K A k l : Nat} (hV : VW (u.1 0) (u.1 4) K A) (hk : k < K) (hkl : l < K) : XP PP (d + 3) 167 0 [.ref o, .int (nI k), .int (nI l)] [] (mst G o u) = some (.inl (some (.int (zb (bts (u.1 0) (u.1 1) (u.1 4) A k l)))), mst G o u) := by
  have hK := hV.2.1
  have e : (nI k = nI l) ↔ _ := nI_eq (by omega) (by omega)
  unfold bts zb
  by_cases q : k = l
  · simp [x167_0, x167_1, x167_2, x167_5, x167_6, x167_7, x167_8, x167_11, x167_14, x167_15, x167_18, x167_19, rf_ref, c1_int, c1_ref, c1_UV, mst_T0, mst_I0, mst_R0, mst_J0, mst_T, mst_N, mst_I, mst_J, mst_B, mst_sI, mst_sI0, mst_sJ, mst_sJ0, uR_s, uR_o, uR_2, uR_uR, uL_s, uL_o, uL_1, up_s, up_o, mT, mN, mR, va_rf_some, litA, litB, litM, nI_add, okZ_0, okZ_1, okZ_zb, zb_0, gB_add, inb_lit, cl_lit, Nat.lt_irrefl, ↓reduceIte, if_true, if_false, RP_v, RP_n, e, q]
  · by_cases q2 : 0 < led (u.1 0) (u.1 1) (u.1 4) A k l
    · simp [x167_0, x167_1, x167_2, x167_5, x167_6, x167_7, x167_8, x167_11, x167_14, x167_15, x167_18, x167_19, rf_ref, c1_int, c1_ref, c1_UV, mst_T0, mst_I0, mst_R0, mst_J0, mst_T, mst_N, mst_I, mst_J, mst_B, mst_sI, mst_sI0, mst_sJ, mst_sJ0, uR_s, uR_o, uR_2, uR_uR, uL_s, uL_o, uL_1, up_s, up_o, mT, mN, mR, va_rf_some, litA, litB, litM, nI_add, okZ_0, okZ_1, okZ_zb, zb_0, gB_add, inb_lit, cl_lit, Nat.lt_irrefl, ↓reduceIte, if_true, if_false, RP_v, RP_n, e, q, q2, s_leadOf hV hk hkl, Int32.not_le.mpr q2]
    · simp [x167_0, x167_1, x167_2, x167_5, x167_6, x167_7, x167_8, x167_11, x167_14, x167_15, x167_18, x167_19, rf_ref, c1_int, c1_ref, c1_UV, mst_T0, mst_I0, mst_R0, mst_J0, mst_T, mst_N, mst_I, mst_J, mst_B, mst_sI, mst_sI0, mst_sJ, mst_sJ0, uR_s, uR_o, uR_2, uR_uR, uL_s, uL_o, uL_1, up_s, up_o, mT, mN, mR, va_rf_some, litA, litB, litM, nI_add, okZ_0, okZ_1, okZ_zb, zb_0, gB_add, inb_lit, cl_lit, Nat.lt_irrefl, ↓reduceIte, if_true, if_false, RP_v, RP_n, e, q, q2, s_leadOf hV hk hkl, Int32.not_lt.mp q2]
def wns (c w r : Rw) (K A k : Nat) : Nat := cnt (bts c w r A k) K
theorem s_winsOf {K A k : Nat} (hV : VW (u.1 0) (u.1 4) K A) (hk : k < K) : XP PP (d + 4) 166 0 [.ref o, .int (nI k), UV, UV] [] (mst G o u) = some (.inl (some (.int (nI (wns (u.1 0) (u.1 1) (u.1 4) K A k)))), mst G o u) := by
  have hV' := hV
  obtain ⟨h1, h2, h3, h4, h5⟩ := hV
  have hl : XP PP (d + 4) 166 4 [.ref o, .int (nI k), .int 0, .int 0] [] (mst G o u) = some (.inl (some (.int (nI (wns (u.1 0) (u.1 1) (u.1 4) K A k)))), mst G o u) := by
    refine XP_for K (fun j => [.ref o, .int (nI k), .int (nI (wns (u.1 0) (u.1 1) (u.1 4) j A k)), .int (nI j)]) (fun _ => mst G o u) ?_ ?_ 0 (Nat.zero_le _)
    · intro j hj
      have e1 : ¬ nI K ≤ nI j := nI_ge hj (by omega)
      refine Eq.trans (by first | exact x166_4 | exact x166_4 (rf_ref _) | exact x166_4 rfl) ?_
      by_cases q : bts (u.1 0) (u.1 1) (u.1 4) A k j = true
      · simp [x166_0, x166_1, x166_2, x166_3, x166_5, x166_6, x166_9, x166_12, x166_13, x166_14, x166_15, x166_18, x166_21, x166_22, x166_23, x166_24, x166_25, x166_28, x166_31, x166_32, rf_ref, c1_int, c1_ref, c1_UV, mst_T0, mst_I0, mst_R0, mst_J0, mst_T, mst_N, mst_I, mst_J, mst_B, mst_sI, mst_sI0, mst_sJ, mst_sJ0, uR_s, uR_o, uR_2, uR_uR, uL_s, uL_o, uL_1, up_s, up_o, mT, mN, mR, va_rf_some, litA, litB, litM, nI_add, okZ_0, okZ_1, okZ_zb, zb_0, gB_add, inb_lit, cl_lit, Nat.lt_irrefl, ↓reduceIte, if_true, if_false, RP_v, RP_n, h1, e1, s_doesBeat hV' hk hj, q, wns, cnt, nI_1, zb]
      · simp [x166_0, x166_1, x166_2, x166_3, x166_5, x166_6, x166_9, x166_12, x166_13, x166_14, x166_15, x166_18, x166_21, x166_22, x166_23, x166_24, x166_25, x166_28, x166_31, x166_32, rf_ref, c1_int, c1_ref, c1_UV, mst_T0, mst_I0, mst_R0, mst_J0, mst_T, mst_N, mst_I, mst_J, mst_B, mst_sI, mst_sI0, mst_sJ, mst_sJ0, uR_s, uR_o, uR_2, uR_uR, uL_s, uL_o, uL_1, up_s, up_o, mT, mN, mR, va_rf_some, litA, litB, litM, nI_add, okZ_0, okZ_1, okZ_zb, zb_0, gB_add, inb_lit, cl_lit, Nat.lt_irrefl, ↓reduceIte, if_true, if_false, RP_v, RP_n, h1, e1, s_doesBeat hV' hk hj, q, wns, cnt, nI_1, zb]
    · refine Eq.trans (by first | exact x166_4 | exact x166_4 (rf_ref _) | exact x166_4 rfl) ?_
      simp [x166_0, x166_1, x166_2, x166_3, x166_5, x166_6, x166_9, x166_12, x166_13, x166_14, x166_15, x166_18, x166_21, x166_22, x166_23, x166_24, x166_25, x166_28, x166_31, x166_32, rf_ref, c1_int, c1_ref, c1_UV, mst_T0, mst_I0, mst_R0, mst_J0, mst_T, mst_N, mst_I, mst_J, mst_B, mst_sI, mst_sI0, mst_sJ, mst_sJ0, uR_s, uR_o, uR_2, uR_uR, uL_s, uL_o, uL_1, up_s, up_o, mT, mN, mR, va_rf_some, litA, litB, litM, nI_add, okZ_0, okZ_1, okZ_zb, zb_0, gB_add, inb_lit, cl_lit, Nat.lt_irrefl, ↓reduceIte, if_true, if_false, RP_v, RP_n, h1]
  simp [x166_0, x166_1, x166_2, x166_3, rf_ref, c1_int, c1_ref, c1_UV, mst_T0, mst_I0, mst_R0, mst_J0, mst_T, mst_N, mst_I, mst_J, mst_B, mst_sI, mst_sI0, mst_sJ, mst_sJ0, uR_s, uR_o, uR_2, uR_uR, uL_s, uL_o, uL_1, up_s, up_o, mT, mN, mR, va_rf_some, litA, litB, litM, nI_add, okZ_0, okZ_1, okZ_zb, zb_0, gB_add, inb_lit, cl_lit, Nat.lt_irrefl, ↓reduceIte, if_true, if_false, RP_v, RP_n, hl]
end

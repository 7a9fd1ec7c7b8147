/-! the twin: orders that would be voted -/
section
variable {d o : Nat} {G : Hp} {u : Mu}
set_option maxHeartbeats 4000000
set_option maxRecDepth 20000
theorem tlF_T {x t : Int32} {f : Rw} {K A m : Nat} : tlF ((uT u x).1 0) ((uT u x).1 1) ((uT u x).1 4) f K A t m = tlF (u.1 0) (u.1 1) (u.1 4) f K A t m := by rw [uT_0, uT_o (show ¬ 1 = 0 by decide), uT_o (show ¬ 4 = 0 by decide)]; exact tlF_c ceq_0
def vtE (K : Nat) (t p : Int32) : Int32 := if irB p 0 (nI K - 1) = false then 1 else if irB t 0 2 = false then 2 else 0
theorem s_voted0 {t p : Int32} {K : Nat} (hb : gB G ≤ o) (h1 : u.1 0 1 = nI K) (h : ¬ vtE K t p = 0) : XP PP (d + 7) 225 0 [.ref o, .int t, .int p] [] (mst G o u) = some (.inl (some (.int 0)), mst G o (uT u (vtE K t p))) := by
  unfold vtE at h ⊢
  by_cases q : irB p 0 (nI K - 1) = false
  · simp [x225_0, x225_1, x225_2, x225_3, x225_6, x225_9, x225_12, x225_13, x225_14, x225_17, x225_18, x225_21, x225_24, x225_25, x225_26, x225_27, x225_28, x225_31, x225_32, x225_35, x225_36, x225_37, rf_ref, c1_int, c1_ref, c1_UV, mst_T0, mst_I0, mst_R0, mst_J0, mst_T, mst_N, mst_I, mst_J, mst_B, mst_sI, mst_sI0, mst_sJ, mst_sJ0, uR_s, uR_o, uR_2, uR_uR, uL_s, uL_o, uL_1, up_s, up_o, mT, mN, mR, va_rf_some, litA, litB, litM, nI_add, okZ_0, okZ_1, okZ_zb, zb_0, gB_add, inb_lit, cl_lit, Nat.lt_irrefl, ↓reduceIte, if_true, if_false, RP_v, RP_n, s_is1, s_is0, s_may1, s_may0, uT_0, uT_o, uT_2, uT_T, s_isAsker', s_isClass', s_isIn9, s_isIn5, s_isIn4, s_isIn59, s_isIn3, s_isIn20, s_isTally', s_areTicks', h1, q, zb_true, zb_false, hb]
  · by_cases q2 : irB t 0 2 = false
    · simp [x225_0, x225_1, x225_2, x225_3, x225_6, x225_9, x225_12, x225_13, x225_14, x225_17, x225_18, x225_21, x225_24, x225_25, x225_26, x225_27, x225_28, x225_31, x225_32, x225_35, x225_36, x225_37, rf_ref, c1_int, c1_ref, c1_UV, mst_T0, mst_I0, mst_R0, mst_J0, mst_T, mst_N, mst_I, mst_J, mst_B, mst_sI, mst_sI0, mst_sJ, mst_sJ0, uR_s, uR_o, uR_2, uR_uR, uL_s, uL_o, uL_1, up_s, up_o, mT, mN, mR, va_rf_some, litA, litB, litM, nI_add, okZ_0, okZ_1, okZ_zb, zb_0, gB_add, inb_lit, cl_lit, Nat.lt_irrefl, ↓reduceIte, if_true, if_false, RP_v, RP_n, s_is1, s_is0, s_may1, s_may0, uT_0, uT_o, uT_2, uT_T, s_isAsker', s_isClass', s_isIn9, s_isIn5, s_isIn4, s_isIn59, s_isIn3, s_isIn20, s_isTally', s_areTicks', h1, bt q, q2, zb_true, zb_false, hb]
    · exact absurd (by rw [if_neg q, if_neg q2]) h
theorem s_voted {t p : Int32} {K A : Nat} (hb : gB G ≤ o) (hV : VW (u.1 0) (u.1 4) K A) (h1K : 1 ≤ K) (h : vtE K t p = 0) : ∃ T, XP PP (d + 7) 225 0 [.ref o, .int t, .int p] [] (mst G o u) = some (.inl (some (.int (tlF (u.1 0) (u.1 1) (u.1 4) (fun _ => 0) K A t K (cl p)))), mst G o (uR (uT u 0) 10 T)) := by
  have h1 := hV.1
  have hK := hV.2.1
  unfold vtE at h
  by_cases q : irB p 0 (nI K - 1) = false
  · rw [if_pos q] at h; exact absurd h (by decide)
  · by_cases q2 : irB t 0 2 = false
    · rw [if_neg q, if_pos q2] at h; exact absurd h (by decide)
    · obtain ⟨y, hy, rfl⟩ := ballot_i h1K hK (bt q)
      have c2' : cl (nI y) = y := nI_clamp (by omega)
      have c1' : inb (nI y) 5 = true := inb_nI (by omega) (by omega)
      have d1 : (nI y).toNatClampNeg = y := nI_clamp (by omega)
      have st := fun d => s_tallies (d := d) (G := G) (o := o) (u := uT u 0) (t := t) hb (VW_T hV)
      have e0 : (uT u 0).1 10 = u.1 10 := uT_o (by decide)
      rw [tlF_T, e0] at st
      refine ⟨tlF (u.1 0) (u.1 1) (u.1 4) (u.1 10) K A t K, ?_⟩
      rw [c2', tlF_indep (g := u.1 10) hK y hy]
      simp [x225_0, x225_1, x225_2, x225_3, x225_6, x225_9, x225_12, x225_13, x225_14, x225_17, x225_18, x225_21, x225_24, x225_25, x225_26, x225_27, x225_28, x225_31, x225_32, x225_35, x225_36, x225_37, rf_ref, c1_int, c1_ref, c1_UV, mst_T0, mst_I0, mst_R0, mst_J0, mst_T, mst_N, mst_I, mst_J, mst_B, mst_sI, mst_sI0, mst_sJ, mst_sJ0, uR_s, uR_o, uR_2, uR_uR, uL_s, uL_o, uL_1, up_s, up_o, mT, mN, mR, va_rf_some, litA, litB, litM, nI_add, okZ_0, okZ_1, okZ_zb, zb_0, gB_add, inb_lit, cl_lit, Nat.lt_irrefl, ↓reduceIte, if_true, if_false, RP_v, RP_n, s_is1, s_is0, s_may1, s_may0, uT_0, uT_o, uT_2, uT_T, s_isAsker', s_isClass', s_isIn9, s_isIn5, s_isIn4, s_isIn59, s_isIn3, s_isIn20, s_isTally', s_areTicks', h1, bt q, bt q2, zb_true, zb_false, hb, st, c1', d1]
/-- isDecisive: whether the order is another one without an asker -/
def dcB (c w r : Rw) (K A a : Nat) : Bool := cnB c r a && (fst (fun p => decide (¬ tlF (va_up c 19 (nI a)) w r (fun _ => 0) K A (r 1) K p = tlF c w r (fun _ => 0) K A (r 1) K p)) K).isSome
theorem s_isDecisive0 {a : Int32} (hb : gB G ≤ o) (h : irB a 0 (u.1 0 2 - 1) = false) : XP PP (d + 7) 229 0 [.ref o, .int a, UV] [] (mst G o u) = some (.inl (some (.int 0)), mst G o (uT u 1)) := by
  simp [x229_0, x229_1, x229_2, x229_3, x229_6, x229_9, x229_12, x229_13, x229_14, x229_17, x229_20, x229_21, x229_22, x229_23, x229_24, x229_27, x229_28, x229_29, x229_32, x229_33, x229_34, x229_35, x229_36, x229_39, x229_42, x229_43, x229_46, x229_47, x229_48, x229_51, x229_52, x229_53, x229_54, x229_57, x229_60, x229_61, x229_62, x229_65, x229_66, x229_67, x229_70, x229_71, x229_72, x229_75, x229_76, x229_77, x229_80, x229_81, x229_82, x229_83, x229_84, x229_87, x229_90, x229_91, x229_94, x229_95, x229_96, x229_97, x229_100, x229_101, x229_102, x229_105, x229_106, x229_107, x229_110, x229_113, x229_114, rf_ref, c1_int, c1_ref, c1_UV, mst_T0, mst_I0, mst_R0, mst_J0, mst_T, mst_N, mst_I, mst_J, mst_B, mst_sI, mst_sI0, mst_sJ, mst_sJ0, uR_s, uR_o, uR_2, uR_uR, uL_s, uL_o, uL_1, up_s, up_o, mT, mN, mR, va_rf_some, litA, litB, litM, nI_add, okZ_0, okZ_1, okZ_zb, zb_0, gB_add, inb_lit, cl_lit, Nat.lt_irrefl, ↓reduceIte, if_true, if_false, RP_v, RP_n, s_is1, s_is0, s_may1, s_may0, uT_0, uT_o, uT_2, uT_T, s_isAsker', s_isClass', s_isIn9, s_isIn5, s_isIn4, s_isIn59, s_isIn3, s_isIn20, s_isTally', s_areTicks', h, zb_true, zb_false, hb]
theorem s_isDecisiveN {a K A : Nat} (hb : gB G ≤ o) (hV : VW (u.1 0) (u.1 4) K A) (h1A : 1 ≤ A) (ha : a < A) (h : cnB (u.1 0) (u.1 4) a = false) : XP PP (d + 7) 229 0 [.ref o, .int (nI a), UV] [] (mst G o u) = some (.inl (some (.int 0)), mst G o (uT u 0)) := by
  have hA := hV.2.2.2.1
  have q : irB (nI a) 0 (u.1 0 2 - 1) = true := by rw [hV.2.2.1, irB_inb h1A (by omega)]; exact inb_nI ha (by omega)
  have sc := fun d => s_counts (d := d) (G := G) (o := o) (u := uT u 0) (a := a) (by omega)
  rw [cnB_T] at sc
  simp [x229_0, x229_1, x229_2, x229_3, x229_6, x229_9, x229_12, x229_13, x229_14, x229_17, x229_20, x229_21, x229_22, x229_23, x229_24, x229_27, x229_28, x229_29, x229_32, x229_33, x229_34, x229_35, x229_36, x229_39, x229_42, x229_43, x229_46, x229_47, x229_48, x229_51, x229_52, x229_53, x229_54, x229_57, x229_60, x229_61, x229_62, x229_65, x229_66, x229_67, x229_70, x229_71, x229_72, x229_75, x229_76, x229_77, x229_80, x229_81, x229_82, x229_83, x229_84, x229_87, x229_90, x229_91, x229_94, x229_95, x229_96, x229_97, x229_100, x229_101, x229_102, x229_105, x229_106, x229_107, x229_110, x229_113, x229_114, rf_ref, c1_int, c1_ref, c1_UV, mst_T0, mst_I0, mst_R0, mst_J0, mst_T, mst_N, mst_I, mst_J, mst_B, mst_sI, mst_sI0, mst_sJ, mst_sJ0, uR_s, uR_o, uR_2, uR_uR, uL_s, uL_o, uL_1, up_s, up_o, mT, mN, mR, va_rf_some, litA, litB, litM, nI_add, okZ_0, okZ_1, okZ_zb, zb_0, gB_add, inb_lit, cl_lit, Nat.lt_irrefl, ↓reduceIte, if_true, if_false, RP_v, RP_n, s_is1, s_is0, s_may1, s_may0, uT_0, uT_o, uT_2, uT_T, s_isAsker', s_isClass', s_isIn9, s_isIn5, s_isIn4, s_isIn59, s_isIn3, s_isIn20, s_isTally', s_areTicks', q, zb_true, zb_false, hb, sc, h]
theorem s_isDecisiveY {a K A : Nat} (hb : gB G ≤ o) (hV : VW (u.1 0) (u.1 4) K A) (h1A : 1 ≤ A) (ha : a < A) (h19 : u.1 0 19 = -1) (h : cnB (u.1 0) (u.1 4) a = true) :
    ∃ T S, XP PP (d + 7) 229 0 [.ref o, .int (nI a), UV] [] (mst G o u) = some (.inl (some (.int (zb (fst (fun p => decide (¬ tlF (va_up (u.1 0) 19 (nI a)) (u.1 1) (u.1 4) (fun _ => 0) K A (u.1 4 1) K p = tlF (u.1 0) (u.1 1) (u.1 4) (fun _ => 0) K A (u.1 4 1) K p)) K).isSome))), mst G o (uR (uR (uT u 0) 10 T) 11 S)) := by
  have hA := hV.2.2.2.1
  have hK := hV.2.1
  have h1 := hV.1
  have q : irB (nI a) 0 (u.1 0 2 - 1) = true := by rw [hV.2.2.1, irB_inb h1A (by omega)]; exact inb_nI ha (by omega)
  have sc := fun d => s_counts (d := d) (G := G) (o := o) (u := uT u 0) (a := a) (by omega)
  rw [cnB_T] at sc
  -- the order as it is
  obtain ⟨T1, hT1⟩ : ∃ T1, T1 = tlF (u.1 0) (u.1 1) (u.1 4) (u.1 10) K A (u.1 4 1) K := ⟨_, rfl⟩
  have st1 := fun d => s_tallies (d := d) (G := G) (o := o) (u := uT u 0) (t := u.1 4 1) hb (VW_T hV)
  have e0 : (uT u 0).1 10 = u.1 10 := uT_o (by decide)
  rw [tlF_T, e0, ← hT1] at st1
  have hl1 : XP PP (d + 7) 229 34 [.ref o, .int (nI a), .int 0] [] (mst G o (uR (uT u 0) 10 T1)) = XP PP (d + 7) 229 60 [.ref o, .int (nI a), .int (nI K)] [] (mst G o (uR (uR (uT u 0) 10 T1) 11 (va_cpy T1 (u.1 11) 0 0 K))) := by
    refine Eq.trans (congrArg (fun z => XP PP (d + 7) 229 34 [.ref o, .int (nI a), .int 0] [] (mst G o z)) (show uR (uT u 0) 10 T1 = uR (uR (uT u 0) 10 T1) 11 (va_cpy T1 (u.1 11) 0 0 0) from by
      rw [cpy_0]
      have := uR_id (u := uR (uT u 0) 10 T1) (j := 11)
      rw [uR_o (by decide), uT_o (by decide)] at this
      exact this.symm)) ?_
    refine XP_for K (fun p => [.ref o, .int (nI a), .int (nI p)]) (fun p => mst G o (uR (uR (uT u 0) 10 T1) 11 (va_cpy T1 (u.1 11) 0 0 p))) ?_ ?_ 0 (Nat.zero_le _)
    · intro p hp
      have e1 : ¬ nI K ≤ nI p := nI_ge hp (by omega)
      have i1 : inb (nI p) 5 = true := inb_nI (by omega) (by omega)
      have i2 : (nI p).toNatClampNeg = p := nI_clamp (by omega)
      refine Eq.trans (by first | exact x229_34 | exact x229_34 (rf_ref _) | exact x229_34 rfl) ?_
      simp [x229_0, x229_1, x229_2, x229_3, x229_6, x229_9, x229_12, x229_13, x229_14, x229_17, x229_20, x229_21, x229_22, x229_23, x229_24, x229_27, x229_28, x229_29, x229_32, x229_33, x229_35, x229_36, x229_39, x229_42, x229_43, x229_46, x229_47, x229_48, x229_51, x229_52, x229_53, x229_54, x229_57, x229_60, x229_61, x229_62, x229_65, x229_66, x229_67, x229_70, x229_71, x229_72, x229_75, x229_76, x229_77, x229_80, x229_81, x229_83, x229_84, x229_87, x229_90, x229_91, x229_94, x229_95, x229_96, x229_97, x229_100, x229_101, x229_102, x229_105, x229_106, x229_107, x229_110, x229_113, x229_114, rf_ref, c1_int, c1_ref, c1_UV, mst_T0, mst_I0, mst_R0, mst_J0, mst_T, mst_N, mst_I, mst_J, mst_B, mst_sI, mst_sI0, mst_sJ, mst_sJ0, uR_s, uR_o, uR_2, uR_uR, uL_s, uL_o, uL_1, up_s, up_o, mT, mN, mR, va_rf_some, litA, litB, litM, nI_add, okZ_0, okZ_1, okZ_zb, zb_0, gB_add, inb_lit, cl_lit, Nat.lt_irrefl, ↓reduceIte, if_true, if_false, RP_v, RP_n, s_is1, s_is0, s_may1, s_may0, uT_0, uT_o, uT_2, uT_T, h1, e1, i1, i2, hb, cpy_k, nI_1]
    · refine Eq.trans (by first | exact x229_34 | exact x229_34 (rf_ref _) | exact x229_34 rfl) ?_
      simp [x229_35, x229_36, x229_39, x229_42, x229_43, x229_46, x229_47, x229_48, x229_51, x229_52, x229_53, x229_54, x229_57, rf_ref, c1_int, c1_ref, c1_UV, mst_T0, mst_I0, mst_R0, mst_J0, mst_T, mst_N, mst_I, mst_J, mst_B, mst_sI, mst_sI0, mst_sJ, mst_sJ0, uR_s, uR_o, uR_2, uR_uR, uL_s, uL_o, uL_1, up_s, up_o, mT, mN, mR, va_rf_some, litA, litB, litM, nI_add, okZ_0, okZ_1, okZ_zb, zb_0, gB_add, inb_lit, cl_lit, Nat.lt_irrefl, ↓reduceIte, if_true, if_false, RP_v, RP_n, s_is1, s_is0, s_may1, s_may0, uT_0, uT_o, uT_2, uT_T, h1]
  -- the order without the asker
  obtain ⟨c9, hc9⟩ : ∃ c9, c9 = va_up (va_up (u.1 0) 0 0) 19 (nI a) := ⟨_, rfl⟩
  obtain ⟨T2, hT2⟩ : ∃ T2, T2 = tlF c9 (u.1 1) (u.1 4) T1 K A (u.1 4 1) K := ⟨_, rfl⟩
  obtain ⟨S, hS⟩ : ∃ S, S = va_cpy T1 (u.1 11) 0 0 K := ⟨_, rfl⟩
  rw [← hS] at hl1
  have hVc : VW c9 (u.1 4) K A := by
    rw [hc9]
    exact ⟨by rw [up_o (by decide), up_o (by decide)]; exact h1, hK, by rw [up_o (by decide), up_o (by decide)]; exact hV.2.2.1, hA, hV.2.2.2.2⟩
  have w1 : (uR (uR (uR u 0 c9) 10 T1) 11 S).1 0 = c9 := by rw [uR_o (by decide), uR_o (by decide), uR_s]
  have w4 : (uR (uR (uR u 0 c9) 10 T1) 11 S).1 4 = u.1 4 := by rw [uR_o (by decide), uR_o (by decide), uR_o (by decide)]
  have st2 := fun d => s_tallies (d := d) (G := G) (o := o) (u := uR (uR (uR u 0 c9) 10 T1) 11 S) (t := u.1 4 1) (K := K) (A := A) hb (by rw [w1, w4]; exact hVc)
  have w11 : (uR (uR (uR u 0 c9) 10 T1) 11 S).1 1 = u.1 1 := by rw [uR_o (by decide), uR_o (by decide), uR_o (by decide)]
  have w10 : (uR (uR (uR u 0 c9) 10 T1) 11 S).1 10 = T1 := by rw [uR_o (by decide), uR_s]
  rw [w1, w4, w11, w10, ← hT2, uc11_10, uR_uR] at st2
  have hback : va_up c9 19 (-1) = va_up (u.1 0) 0 0 := by
    rw [hc9]
    funext k
    unfold va_up
    by_cases e : k = 19
    · rw [if_pos e, if_neg (by omega), e, h19]
    · rw [if_neg e, if_neg e]
  have eT : uR (uR (uT u 0) 10 T1) 11 S = uR (uR (uR u 0 (va_up (u.1 0) 0 0)) 10 T1) 11 S := rfl
  have hmid : XP PP (d + 7) 229 60 [.ref o, .int (nI a), .int (nI K)] [] (mst G o (uR (uR (uT u 0) 10 T1) 11 S)) = XP PP (d + 7) 229 82 [.ref o, .int (nI a), .int 0] [] (mst G o (uR (uR (uT u 0) 10 T2) 11 S)) := by
    rw [eT]
    simp [x229_60, x229_61, x229_62, x229_65, x229_66, x229_67, x229_70, x229_71, x229_72, x229_75, x229_76, x229_77, x229_80, x229_81, rf_ref, c1_int, c1_ref, c1_UV, mst_T0, mst_I0, mst_R0, mst_J0, mst_T, mst_N, mst_I, mst_J, mst_B, mst_sI, mst_sI0, mst_sJ, mst_sJ0, uR_s, uR_o, uR_2, uR_uR, uL_s, uL_o, uL_1, up_s, up_o, mT, mN, mR, va_rf_some, litA, litB, litM, nI_add, okZ_0, okZ_1, okZ_zb, zb_0, gB_add, inb_lit, cl_lit, Nat.lt_irrefl, ↓reduceIte, if_true, if_false, RP_v, RP_n, s_is1, s_is0, s_may1, s_may0, uT_0, uT_o, uT_2, uT_T, uc1_0, uc4_0, uc4_1, uc5_0, uc5_1, uc5_4, uc6_0, uc6_1, uc6_4, uc6_5, uc7_0, uc7_1, uc7_4, uc7_5, uc7_6, uc8_0, uc8_1, uc8_4, uc8_5, uc8_6, uc8_7, uc9_0, uc9_1, uc9_4, uc9_5, uc9_6, uc9_7, uc9_8, uc10_0, uc10_1, uc10_4, uc10_5, uc10_6, uc10_7, uc10_8, uc10_9, uc11_0, uc11_1, uc11_4, uc11_5, uc11_6, uc11_7, uc11_8, uc11_9, uc11_10, uc12_0, uc12_1, uc12_4, uc12_5, uc12_6, uc12_7, uc12_8, uc12_9, uc12_10, uc12_11, uc13_0, uc13_1, uc13_4, uc13_5, uc13_6, uc13_7, uc13_8, uc13_9, uc13_10, uc13_11, uc13_12, uc14_0, uc14_1, uc14_4, uc14_5, uc14_6, uc14_7, uc14_8, uc14_9, uc14_10, uc14_11, uc14_12, uc14_13, uc17_0, uc17_1, uc17_4, uc17_5, uc17_6, uc17_7, uc17_8, uc17_9, uc17_10, uc17_11, uc17_12, uc17_13, uc17_14, hb, ← hc9, st2, hback]
    rfl
  have v1 : ((uR (uR (uT u 0) 10 T2) 11 S).1 0) 1 = nI K := by rw [uR_o (by decide), uR_o (by decide), uT_0, up_o (by decide)]; exact h1
  have hl2 : XP PP (d + 7) 229 82 [.ref o, .int (nI a), .int 0] [] (mst G o (uR (uR (uT u 0) 10 T2) 11 S)) = some (.inl (some (.int (zb (fst (fun p => decide (¬ T2 p = S p)) K).isSome))), mst G o (uR (uR (uT u 0) 10 T2) 11 S)) := by
    refine (XP_fst K (fun p => decide (¬ T2 p = S p)) (fun p => [.ref o, .int (nI a), .int (nI p)]) (fun _ => mst G o (uR (uR (uT u 0) 10 T2) 11 S)) (X := some (.inl (some (.int 0)), mst G o (uR (uR (uT u 0) 10 T2) 11 S))) (fun p => some (.inl (some (.int 1)), mst G o (uR (uR (uT u 0) 10 T2) 11 S))) ?_ ?_ ?_).trans ?_
    · intro p hp hx
      have hx' := of_decide_eq_true hx
      have e1 : ¬ nI K ≤ nI p := nI_ge hp (by omega)
      have i1 : inb (nI p) 5 = true := inb_nI (by omega) (by omega)
      have i2 : (nI p).toNatClampNeg = p := nI_clamp (by omega)
      refine Eq.trans (by first | exact x229_82 | exact x229_82 (rf_ref _) | exact x229_82 rfl) ?_
      simp [x229_0, x229_1, x229_2, x229_3, x229_6, x229_9, x229_12, x229_13, x229_14, x229_17, x229_20, x229_21, x229_22, x229_23, x229_24, x229_27, x229_28, x229_29, x229_32, x229_33, x229_35, x229_36, x229_39, x229_42, x229_43, x229_46, x229_47, x229_48, x229_51, x229_52, x229_53, x229_54, x229_57, x229_60, x229_61, x229_62, x229_65, x229_66, x229_67, x229_70, x229_71, x229_72, x229_75, x229_76, x229_77, x229_80, x229_81, x229_83, x229_84, x229_87, x229_90, x229_91, x229_94, x229_95, x229_96, x229_97, x229_100, x229_101, x229_102, x229_105, x229_106, x229_107, x229_110, x229_113, x229_114, rf_ref, c1_int, c1_ref, c1_UV, mst_T0, mst_I0, mst_R0, mst_J0, mst_T, mst_N, mst_I, mst_J, mst_B, mst_sI, mst_sI0, mst_sJ, mst_sJ0, uR_s, uR_o, uR_2, uR_uR, uL_s, uL_o, uL_1, up_s, up_o, mT, mN, mR, va_rf_some, litA, litB, litM, nI_add, okZ_0, okZ_1, okZ_zb, zb_0, gB_add, inb_lit, cl_lit, Nat.lt_irrefl, ↓reduceIte, if_true, if_false, RP_v, RP_n, s_is1, s_is0, s_may1, s_may0, uT_0, uT_o, uT_2, uT_T, h1, e1, i1, i2, hx']
    · intro p hp hx
      have hx' := of_decide_eq_false hx
      rw [Decidable.not_not] at hx'
      have e1 : ¬ nI K ≤ nI p := nI_ge hp (by omega)
      have i1 : inb (nI p) 5 = true := inb_nI (by omega) (by omega)
      have i2 : (nI p).toNatClampNeg = p := nI_clamp (by omega)
      refine Eq.trans (by first | exact x229_82 | exact x229_82 (rf_ref _) | exact x229_82 rfl) ?_
      simp [x229_0, x229_1, x229_2, x229_3, x229_6, x229_9, x229_12, x229_13, x229_14, x229_17, x229_20, x229_21, x229_22, x229_23, x229_24, x229_27, x229_28, x229_29, x229_32, x229_33, x229_35, x229_36, x229_39, x229_42, x229_43, x229_46, x229_47, x229_48, x229_51, x229_52, x229_53, x229_54, x229_57, x229_60, x229_61, x229_62, x229_65, x229_66, x229_67, x229_70, x229_71, x229_72, x229_75, x229_76, x229_77, x229_80, x229_81, x229_83, x229_84, x229_87, x229_90, x229_91, x229_94, x229_95, x229_96, x229_97, x229_100, x229_101, x229_102, x229_105, x229_106, x229_107, x229_110, x229_113, x229_114, rf_ref, c1_int, c1_ref, c1_UV, mst_T0, mst_I0, mst_R0, mst_J0, mst_T, mst_N, mst_I, mst_J, mst_B, mst_sI, mst_sI0, mst_sJ, mst_sJ0, uR_s, uR_o, uR_2, uR_uR, uL_s, uL_o, uL_1, up_s, up_o, mT, mN, mR, va_rf_some, litA, litB, litM, nI_add, okZ_0, okZ_1, okZ_zb, zb_0, gB_add, inb_lit, cl_lit, Nat.lt_irrefl, ↓reduceIte, if_true, if_false, RP_v, RP_n, s_is1, s_is0, s_may1, s_may0, uT_0, uT_o, uT_2, uT_T, h1, e1, i1, i2, hx', nI_1]
    · refine Eq.trans (by first | exact x229_82 | exact x229_82 (rf_ref _) | exact x229_82 rfl) ?_
      simp [x229_0, x229_1, x229_2, x229_3, x229_6, x229_9, x229_12, x229_13, x229_14, x229_17, x229_20, x229_21, x229_22, x229_23, x229_24, x229_27, x229_28, x229_29, x229_32, x229_33, x229_35, x229_36, x229_39, x229_42, x229_43, x229_46, x229_47, x229_48, x229_51, x229_52, x229_53, x229_54, x229_57, x229_60, x229_61, x229_62, x229_65, x229_66, x229_67, x229_70, x229_71, x229_72, x229_75, x229_76, x229_77, x229_80, x229_81, x229_83, x229_84, x229_87, x229_90, x229_91, x229_94, x229_95, x229_96, x229_97, x229_100, x229_101, x229_102, x229_105, x229_106, x229_107, x229_110, x229_113, x229_114, rf_ref, c1_int, c1_ref, c1_UV, mst_T0, mst_I0, mst_R0, mst_J0, mst_T, mst_N, mst_I, mst_J, mst_B, mst_sI, mst_sI0, mst_sJ, mst_sJ0, uR_s, uR_o, uR_2, uR_uR, uL_s, uL_o, uL_1, up_s, up_o, mT, mN, mR, va_rf_some, litA, litB, litM, nI_add, okZ_0, okZ_1, okZ_zb, zb_0, gB_add, inb_lit, cl_lit, Nat.lt_irrefl, ↓reduceIte, if_true, if_false, RP_v, RP_n, s_is1, s_is0, s_may1, s_may0, uT_0, uT_o, uT_2, uT_T, h1]
    · cases fst (fun p => decide (¬ T2 p = S p)) K <;> rfl
  refine ⟨T2, S, ?_⟩
  have hfin : fst (fun p => decide (¬ tlF (va_up (u.1 0) 19 (nI a)) (u.1 1) (u.1 4) (fun _ => 0) K A (u.1 4 1) K p = tlF (u.1 0) (u.1 1) (u.1 4) (fun _ => 0) K A (u.1 4 1) K p)) K = fst (fun p => decide (¬ T2 p = S p)) K := by
    refine fst_congr (fun p hp => ?_)
    have a1 : S p = tlF (u.1 0) (u.1 1) (u.1 4) (fun _ => 0) K A (u.1 4 1) K p := by
      rw [hS]
      unfold va_cpy
      rw [if_pos (by omega), hT1]
      rw [show 0 + (p - 0) = p by omega]
      exact tlF_indep hK p hp
    have a2 : T2 p = tlF (va_up (u.1 0) 19 (nI a)) (u.1 1) (u.1 4) (fun _ => 0) K A (u.1 4 1) K p := by
      rw [hT2, tlF_indep (g := fun _ => 0) hK p hp, hc9]
      rw [tlF_c (c' := va_up (u.1 0) 19 (nI a)) ⟨by rw [up_o (by decide), up_o (by decide), up_o (by decide)], by rw [up_o (by decide), up_o (by decide), up_o (by decide)], by rw [up_o (by decide), up_o (by decide), up_o (by decide)], by rw [up_s, up_s]⟩]
    rw [a1, a2]
  rw [hfin]
  simp [x229_0, x229_1, x229_2, x229_3, x229_6, x229_9, x229_12, x229_13, x229_14, x229_17, x229_20, x229_21, x229_22, x229_23, x229_24, x229_27, x229_28, x229_29, x229_32, x229_33, rf_ref, c1_int, c1_ref, c1_UV, mst_T0, mst_I0, mst_R0, mst_J0, mst_T, mst_N, mst_I, mst_J, mst_B, mst_sI, mst_sI0, mst_sJ, mst_sJ0, uR_s, uR_o, uR_2, uR_uR, uL_s, uL_o, uL_1, up_s, up_o, mT, mN, mR, va_rf_some, litA, litB, litM, nI_add, okZ_0, okZ_1, okZ_zb, zb_0, gB_add, inb_lit, cl_lit, Nat.lt_irrefl, ↓reduceIte, if_true, if_false, RP_v, RP_n, s_is1, s_is0, s_may1, s_may0, uT_0, uT_o, uT_2, uT_T, s_isAsker', s_isClass', s_isIn9, s_isIn5, s_isIn4, s_isIn59, s_isIn3, s_isIn20, s_isTally', s_areTicks', q, zb_true, zb_false, hb, sc, h, st1, hl1, hmid, hl2]
end

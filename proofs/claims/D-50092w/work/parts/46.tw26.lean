/-! the twin: votes, asked -/
section
variable {d o : Nat} {G : Hp} {u : Mu}
set_option maxHeartbeats 4000000
set_option maxRecDepth 20000
theorem pts_T {x : Int32} {K A : Nat} : pts ((uT u x).1 0) ((uT u x).1 1) ((uT u x).1 4) K A = pts (u.1 0) (u.1 1) (u.1 4) K A := by rw [uT_0, uT_o (show ¬ 1 = 0 by decide), uT_o (show ¬ 4 = 0 by decide)]; exact pts_c ceq_0
theorem fis_T {x : Int32} {A : Nat} : fis ((uT u x).1 0) ((uT u x).1 1) ((uT u x).1 4) A = fis (u.1 0) (u.1 1) (u.1 4) A := by rw [uT_0, uT_o (show ¬ 1 = 0 by decide), uT_o (show ¬ 4 = 0 by decide)]; exact fis_c ceq_0
theorem bts_T {x : Int32} {A : Nat} : bts ((uT u x).1 0) ((uT u x).1 1) ((uT u x).1 4) A = bts (u.1 0) (u.1 1) (u.1 4) A := by rw [uT_0, uT_o (show ¬ 1 = 0 by decide), uT_o (show ¬ 4 = 0 by decide)]; exact bts_c ceq_0
theorem wns_T {x : Int32} {K A : Nat} : wns ((uT u x).1 0) ((uT u x).1 1) ((uT u x).1 4) K A = wns (u.1 0) (u.1 1) (u.1 4) K A := by rw [uT_0, uT_o (show ¬ 1 = 0 by decide), uT_o (show ¬ 4 = 0 by decide)]; exact wns_c ceq_0
theorem cnB_T {x : Int32} : cnB ((uT u x).1 0) ((uT u x).1 4) = cnB (u.1 0) (u.1 4) := by rw [uT_0, uT_o (show ¬ 4 = 0 by decide)]; exact cnB_c ceq_0
theorem s_points {k : Int32} {K A : Nat} (hb : gB G ≤ o) (hV : VW (u.1 0) (u.1 4) K A) (h1K : 1 ≤ K) :
    XP PP (d + 3) 220 0 [.ref o, .int k] [] (mst G o u) = some (.inl (some (.int (if irB k 0 (nI K - 1) = true then pts (u.1 0) (u.1 1) (u.1 4) K A (cl k) else 0))), mst G o (uT u (tld (irB k 0 (nI K - 1))))) := by
  have h1 := hV.1
  by_cases q : irB k 0 (nI K - 1) = true
  · obtain ⟨y, hy, rfl⟩ := ballot_i h1K hV.2.1 q
    have c2' : cl (nI y) = y := nI_clamp (by have := hV.2.1; omega)
    have sp := fun d => s_pointsOf (d := d) (G := G) (o := o) (u := uT u 0) (k := y) (VW_T hV) hy
    rw [pts_T] at sp
    simp [x220_0, x220_1, x220_2, x220_3, x220_6, x220_9, x220_12, x220_13, x220_14, x220_17, x220_20, x220_21, rf_ref, c1_int, c1_ref, c1_UV, mst_T0, mst_I0, mst_R0, mst_J0, mst_T, mst_N, mst_I, mst_J, mst_B, mst_sI, mst_sI0, mst_sJ, mst_sJ0, uR_s, uR_o, uR_2, uR_uR, uL_s, uL_o, uL_1, up_s, up_o, mT, mN, mR, va_rf_some, litA, litB, litM, nI_add, okZ_0, okZ_1, okZ_zb, zb_0, gB_add, inb_lit, cl_lit, Nat.lt_irrefl, ↓reduceIte, if_true, if_false, RP_v, RP_n, s_is1, s_is0, s_may1, s_may0, uT_0, uT_o, uT_2, uT_T, s_isAsker', s_isClass', s_isIn9, s_isIn5, s_isIn4, s_isIn59, s_isIn3, s_isIn20, s_isTally', s_areTicks', h1, q, zb_true, zb_false, hb, tld, c2', sp]
  · simp [x220_0, x220_1, x220_2, x220_3, x220_6, x220_9, x220_12, x220_13, x220_14, x220_17, x220_20, x220_21, rf_ref, c1_int, c1_ref, c1_UV, mst_T0, mst_I0, mst_R0, mst_J0, mst_T, mst_N, mst_I, mst_J, mst_B, mst_sI, mst_sI0, mst_sJ, mst_sJ0, uR_s, uR_o, uR_2, uR_uR, uL_s, uL_o, uL_1, up_s, up_o, mT, mN, mR, va_rf_some, litA, litB, litM, nI_add, okZ_0, okZ_1, okZ_zb, zb_0, gB_add, inb_lit, cl_lit, Nat.lt_irrefl, ↓reduceIte, if_true, if_false, RP_v, RP_n, s_is1, s_is0, s_may1, s_may0, uT_0, uT_o, uT_2, uT_T, s_isAsker', s_isClass', s_isIn9, s_isIn5, s_isIn4, s_isIn59, s_isIn3, s_isIn20, s_isTally', s_areTicks', h1, q, zb_true, zb_false, hb, tld]
theorem s_firsts {k p : Int32} {K A : Nat} (hb : gB G ≤ o) (hV : VW (u.1 0) (u.1 4) K A) (h1K : 1 ≤ K) :
    XP PP (d + 2) 221 0 [.ref o, .int k, .int p] [] (mst G o u) = some (.inl (some (.int (if (irB k 0 (nI K - 1) && irB p 0 (nI K - 1)) = true then fis (u.1 0) (u.1 1) (u.1 4) A (cl k) (cl p) else 0))), mst G o (uT u (tld (irB k 0 (nI K - 1) && irB p 0 (nI K - 1))))) := by
  have h1 := hV.1
  have hK := hV.2.1
  by_cases q : irB k 0 (nI K - 1) = true
  · by_cases q2 : irB p 0 (nI K - 1) = true
    · obtain ⟨y, hy, rfl⟩ := ballot_i h1K hV.2.1 q
      obtain ⟨z, hz, rfl⟩ := ballot_i h1K hV.2.1 q2
      have c2' : cl (nI y) = y := nI_clamp (by omega)
      have c3' : cl (nI z) = z := nI_clamp (by omega)
      have sp := fun d => s_firstsOf (d := d) (G := G) (o := o) (u := uT u 0) (k := y) (p := z) (VW_T hV) (by omega)
      rw [fis_T] at sp
      simp [x221_0, x221_1, x221_2, x221_3, x221_6, x221_9, x221_10, x221_11, x221_14, x221_17, x221_18, x221_21, x221_22, x221_25, x221_28, x221_29, x221_30, x221_31, x221_34, x221_37, x221_38, rf_ref, c1_int, c1_ref, c1_UV, mst_T0, mst_I0, mst_R0, mst_J0, mst_T, mst_N, mst_I, mst_J, mst_B, mst_sI, mst_sI0, mst_sJ, mst_sJ0, uR_s, uR_o, uR_2, uR_uR, uL_s, uL_o, uL_1, up_s, up_o, mT, mN, mR, va_rf_some, litA, litB, litM, nI_add, okZ_0, okZ_1, okZ_zb, zb_0, gB_add, inb_lit, cl_lit, Nat.lt_irrefl, ↓reduceIte, if_true, if_false, RP_v, RP_n, s_is1, s_is0, s_may1, s_may0, uT_0, uT_o, uT_2, uT_T, s_isAsker', s_isClass', s_isIn9, s_isIn5, s_isIn4, s_isIn59, s_isIn3, s_isIn20, s_isTally', s_areTicks', h1, q, q2, zb_true, zb_false, hb, tld, c2', c3', sp]
    · simp [x221_0, x221_1, x221_2, x221_3, x221_6, x221_9, x221_10, x221_11, x221_14, x221_17, x221_18, x221_21, x221_22, x221_25, x221_28, x221_29, x221_30, x221_31, x221_34, x221_37, x221_38, rf_ref, c1_int, c1_ref, c1_UV, mst_T0, mst_I0, mst_R0, mst_J0, mst_T, mst_N, mst_I, mst_J, mst_B, mst_sI, mst_sI0, mst_sJ, mst_sJ0, uR_s, uR_o, uR_2, uR_uR, uL_s, uL_o, uL_1, up_s, up_o, mT, mN, mR, va_rf_some, litA, litB, litM, nI_add, okZ_0, okZ_1, okZ_zb, zb_0, gB_add, inb_lit, cl_lit, Nat.lt_irrefl, ↓reduceIte, if_true, if_false, RP_v, RP_n, s_is1, s_is0, s_may1, s_may0, uT_0, uT_o, uT_2, uT_T, s_isAsker', s_isClass', s_isIn9, s_isIn5, s_isIn4, s_isIn59, s_isIn3, s_isIn20, s_isTally', s_areTicks', h1, q, q2, zb_true, zb_false, hb, tld]
  · simp [x221_0, x221_1, x221_2, x221_3, x221_6, x221_9, x221_10, x221_11, x221_14, x221_17, x221_18, x221_21, x221_22, x221_25, x221_28, x221_29, x221_30, x221_31, x221_34, x221_37, x221_38, rf_ref, c1_int, c1_ref, c1_UV, mst_T0, mst_I0, mst_R0, mst_J0, mst_T, mst_N, mst_I, mst_J, mst_B, mst_sI, mst_sI0, mst_sJ, mst_sJ0, uR_s, uR_o, uR_2, uR_uR, uL_s, uL_o, uL_1, up_s, up_o, mT, mN, mR, va_rf_some, litA, litB, litM, nI_add, okZ_0, okZ_1, okZ_zb, zb_0, gB_add, inb_lit, cl_lit, Nat.lt_irrefl, ↓reduceIte, if_true, if_false, RP_v, RP_n, s_is1, s_is0, s_may1, s_may0, uT_0, uT_o, uT_2, uT_T, s_isAsker', s_isClass', s_isIn9, s_isIn5, s_isIn4, s_isIn59, s_isIn3, s_isIn20, s_isTally', s_areTicks', h1, q, zb_true, zb_false, hb, tld]
theorem s_beats {k p : Int32} {K A : Nat} (hb : gB G ≤ o) (hV : VW (u.1 0) (u.1 4) K A) (h1K : 1 ≤ K) :
    XP PP (d + 4) 222 0 [.ref o, .int k, .int p] [] (mst G o u) = some (.inl (some (.int (zb ((irB k 0 (nI K - 1) && irB p 0 (nI K - 1)) && bts (u.1 0) (u.1 1) (u.1 4) A (cl k) (cl p))))), mst G o (uT u (tld (irB k 0 (nI K - 1) && irB p 0 (nI K - 1))))) := by
  have h1 := hV.1
  have hK := hV.2.1
  by_cases q : irB k 0 (nI K - 1) = true
  · by_cases q2 : irB p 0 (nI K - 1) = true
    · obtain ⟨y, hy, rfl⟩ := ballot_i h1K hV.2.1 q
      obtain ⟨z, hz, rfl⟩ := ballot_i h1K hV.2.1 q2
      have c2' : cl (nI y) = y := nI_clamp (by omega)
      have c3' : cl (nI z) = z := nI_clamp (by omega)
      have sp := fun d => s_doesBeat (d := d) (G := G) (o := o) (u := uT u 0) (k := y) (l := z) (VW_T hV) hy hz
      rw [bts_T] at sp
      by_cases q3 : bts (u.1 0) (u.1 1) (u.1 4) A y z = true
      · simp [x222_0, x222_1, x222_2, x222_3, x222_6, x222_9, x222_10, x222_11, x222_14, x222_17, x222_18, x222_21, x222_22, x222_25, x222_28, x222_29, x222_30, x222_31, x222_34, x222_37, x222_38, x222_41, x222_42, rf_ref, c1_int, c1_ref, c1_UV, mst_T0, mst_I0, mst_R0, mst_J0, mst_T, mst_N, mst_I, mst_J, mst_B, mst_sI, mst_sI0, mst_sJ, mst_sJ0, uR_s, uR_o, uR_2, uR_uR, uL_s, uL_o, uL_1, up_s, up_o, mT, mN, mR, va_rf_some, litA, litB, litM, nI_add, okZ_0, okZ_1, okZ_zb, zb_0, gB_add, inb_lit, cl_lit, Nat.lt_irrefl, ↓reduceIte, if_true, if_false, RP_v, RP_n, s_is1, s_is0, s_may1, s_may0, uT_0, uT_o, uT_2, uT_T, s_isAsker', s_isClass', s_isIn9, s_isIn5, s_isIn4, s_isIn59, s_isIn3, s_isIn20, s_isTally', s_areTicks', h1, q, q2, zb_true, zb_false, hb, tld, c2', c3', sp, q3]
      · simp [x222_0, x222_1, x222_2, x222_3, x222_6, x222_9, x222_10, x222_11, x222_14, x222_17, x222_18, x222_21, x222_22, x222_25, x222_28, x222_29, x222_30, x222_31, x222_34, x222_37, x222_38, x222_41, x222_42, rf_ref, c1_int, c1_ref, c1_UV, mst_T0, mst_I0, mst_R0, mst_J0, mst_T, mst_N, mst_I, mst_J, mst_B, mst_sI, mst_sI0, mst_sJ, mst_sJ0, uR_s, uR_o, uR_2, uR_uR, uL_s, uL_o, uL_1, up_s, up_o, mT, mN, mR, va_rf_some, litA, litB, litM, nI_add, okZ_0, okZ_1, okZ_zb, zb_0, gB_add, inb_lit, cl_lit, Nat.lt_irrefl, ↓reduceIte, if_true, if_false, RP_v, RP_n, s_is1, s_is0, s_may1, s_may0, uT_0, uT_o, uT_2, uT_T, s_isAsker', s_isClass', s_isIn9, s_isIn5, s_isIn4, s_isIn59, s_isIn3, s_isIn20, s_isTally', s_areTicks', h1, q, q2, zb_true, zb_false, hb, tld, c2', c3', sp, q3]
    · simp [x222_0, x222_1, x222_2, x222_3, x222_6, x222_9, x222_10, x222_11, x222_14, x222_17, x222_18, x222_21, x222_22, x222_25, x222_28, x222_29, x222_30, x222_31, x222_34, x222_37, x222_38, x222_41, x222_42, rf_ref, c1_int, c1_ref, c1_UV, mst_T0, mst_I0, mst_R0, mst_J0, mst_T, mst_N, mst_I, mst_J, mst_B, mst_sI, mst_sI0, mst_sJ, mst_sJ0, uR_s, uR_o, uR_2, uR_uR, uL_s, uL_o, uL_1, up_s, up_o, mT, mN, mR, va_rf_some, litA, litB, litM, nI_add, okZ_0, okZ_1, okZ_zb, zb_0, gB_add, inb_lit, cl_lit, Nat.lt_irrefl, ↓reduceIte, if_true, if_false, RP_v, RP_n, s_is1, s_is0, s_may1, s_may0, uT_0, uT_o, uT_2, uT_T, s_isAsker', s_isClass', s_isIn9, s_isIn5, s_isIn4, s_isIn59, s_isIn3, s_isIn20, s_isTally', s_areTicks', h1, q, q2, zb_true, zb_false, hb, tld]
  · simp [x222_0, x222_1, x222_2, x222_3, x222_6, x222_9, x222_10, x222_11, x222_14, x222_17, x222_18, x222_21, x222_22, x222_25, x222_28, x222_29, x222_30, x222_31, x222_34, x222_37, x222_38, x222_41, x222_42, rf_ref, c1_int, c1_ref, c1_UV, mst_T0, mst_I0, mst_R0, mst_J0, mst_T, mst_N, mst_I, mst_J, mst_B, mst_sI, mst_sI0, mst_sJ, mst_sJ0, uR_s, uR_o, uR_2, uR_uR, uL_s, uL_o, uL_1, up_s, up_o, mT, mN, mR, va_rf_some, litA, litB, litM, nI_add, okZ_0, okZ_1, okZ_zb, zb_0, gB_add, inb_lit, cl_lit, Nat.lt_irrefl, ↓reduceIte, if_true, if_false, RP_v, RP_n, s_is1, s_is0, s_may1, s_may0, uT_0, uT_o, uT_2, uT_T, s_isAsker', s_isClass', s_isIn9, s_isIn5, s_isIn4, s_isIn59, s_isIn3, s_isIn20, s_isTally', s_areTicks', h1, q, zb_true, zb_false, hb, tld]
theorem s_wins {k : Int32} {K A : Nat} (hb : gB G ≤ o) (hV : VW (u.1 0) (u.1 4) K A) (h1K : 1 ≤ K) :
    XP PP (d + 5) 223 0 [.ref o, .int k] [] (mst G o u) = some (.inl (some (.int (if irB k 0 (nI K - 1) = true then nI (wns (u.1 0) (u.1 1) (u.1 4) K A (cl k)) else 0))), mst G o (uT u (tld (irB k 0 (nI K - 1))))) := by
  have h1 := hV.1
  by_cases q : irB k 0 (nI K - 1) = true
  · obtain ⟨y, hy, rfl⟩ := ballot_i h1K hV.2.1 q
    have c2' : cl (nI y) = y := nI_clamp (by have := hV.2.1; omega)
    have sp := fun d => s_winsOf (d := d) (G := G) (o := o) (u := uT u 0) (k := y) (VW_T hV) hy
    rw [wns_T] at sp
    simp [x223_0, x223_1, x223_2, x223_3, x223_6, x223_9, x223_12, x223_13, x223_14, x223_17, x223_20, x223_21, rf_ref, c1_int, c1_ref, c1_UV, mst_T0, mst_I0, mst_R0, mst_J0, mst_T, mst_N, mst_I, mst_J, mst_B, mst_sI, mst_sI0, mst_sJ, mst_sJ0, uR_s, uR_o, uR_2, uR_uR, uL_s, uL_o, uL_1, up_s, up_o, mT, mN, mR, va_rf_some, litA, litB, litM, nI_add, okZ_0, okZ_1, okZ_zb, zb_0, gB_add, inb_lit, cl_lit, Nat.lt_irrefl, ↓reduceIte, if_true, if_false, RP_v, RP_n, s_is1, s_is0, s_may1, s_may0, uT_0, uT_o, uT_2, uT_T, s_isAsker', s_isClass', s_isIn9, s_isIn5, s_isIn4, s_isIn59, s_isIn3, s_isIn20, s_isTally', s_areTicks', h1, q, zb_true, zb_false, hb, tld, c2', sp]
  · simp [x223_0, x223_1, x223_2, x223_3, x223_6, x223_9, x223_12, x223_13, x223_14, x223_17, x223_20, x223_21, rf_ref, c1_int, c1_ref, c1_UV, mst_T0, mst_I0, mst_R0, mst_J0, mst_T, mst_N, mst_I, mst_J, mst_B, mst_sI, mst_sI0, mst_sJ, mst_sJ0, uR_s, uR_o, uR_2, uR_uR, uL_s, uL_o, uL_1, up_s, up_o, mT, mN, mR, va_rf_some, litA, litB, litM, nI_add, okZ_0, okZ_1, okZ_zb, zb_0, gB_add, inb_lit, cl_lit, Nat.lt_irrefl, ↓reduceIte, if_true, if_false, RP_v, RP_n, s_is1, s_is0, s_may1, s_may0, uT_0, uT_o, uT_2, uT_T, s_isAsker', s_isClass', s_isIn9, s_isIn5, s_isIn4, s_isIn59, s_isIn3, s_isIn20, s_isTally', s_areTicks', h1, q, zb_true, zb_false, hb, tld]
/-- champion -/
def chV (c w r : Rw) (K A : Nat) : Int32 := if (fst (cnB c r) A).isSome = true then oI (fst (fun k => decide (wns c w r K A k = K - 1)) K) else -1
theorem s_champion {K A : Nat} (hb : gB G ≤ o) (hV : VW (u.1 0) (u.1 4) K A) (h1K : 1 ≤ K) : XP PP (d + 5) 224 0 [.ref o, UV] [] (mst G o u) = some (.inl (some (.int (chV (u.1 0) (u.1 1) (u.1 4) K A))), mst G o (uT u 0)) := by
  have hV' := VW_T (x := 0) hV
  have hK := hV.2.1
  have h1 : (uT u 0).1 0 1 = nI K := hV'.1
  have sd := fun d => s_doesAnyCount (d := d) (G := G) (o := o) (u := uT u 0) (A := A) hV'.2.2.1 hV.2.2.2.1
  rw [cnB_T] at sd
  have e : sI (mst G o u) o 0 0 = mst G o (uT u 0) := mst_sI0
  have eK : nI K - 1 = nI (K - 1) := nI_sub (b := 1) h1K
  unfold chV
  have hl : XP PP (d + 5) 224 16 [.ref o, .int 0] [] (mst G o (uT u 0)) = some (.inl (some (.int (oI (fst (fun k => decide (wns (u.1 0) (u.1 1) (u.1 4) K A k = K - 1)) K)))), mst G o (uT u 0)) := by
    refine (XP_fst K (fun k => decide (wns (u.1 0) (u.1 1) (u.1 4) K A k = K - 1)) (fun j => [.ref o, .int (nI j)]) (fun _ => mst G o (uT u 0)) (X := some (.inl (some (.int (-1))), mst G o (uT u 0))) (fun j => some (.inl (some (.int (nI j))), mst G o (uT u 0))) ?_ ?_ ?_).trans ?_
    · intro j hj hp
      have hp' := of_decide_eq_true hp
      have e1 : ¬ nI K ≤ nI j := nI_ge hj (by omega)
      have sw := fun d => s_winsOf (d := d) (G := G) (o := o) (u := uT u 0) (k := j) hV' hj
      rw [wns_T] at sw
      refine Eq.trans (by first | exact x224_16 | exact x224_16 (rf_ref _) | exact x224_16 rfl) ?_
      simp [x224_0, x224_1, x224_2, x224_5, x224_6, x224_9, x224_12, x224_13, x224_14, x224_15, x224_17, x224_18, x224_21, x224_24, x224_25, x224_26, x224_29, x224_30, x224_33, x224_34, x224_35, x224_38, x224_39, x224_40, x224_43, x224_46, x224_47, rf_ref, c1_int, c1_ref, c1_UV, mst_T0, mst_I0, mst_R0, mst_J0, mst_T, mst_N, mst_I, mst_J, mst_B, mst_sI, mst_sI0, mst_sJ, mst_sJ0, uR_s, uR_o, uR_2, uR_uR, uL_s, uL_o, uL_1, up_s, up_o, mT, mN, mR, va_rf_some, litA, litB, litM, nI_add, okZ_0, okZ_1, okZ_zb, zb_0, gB_add, inb_lit, cl_lit, Nat.lt_irrefl, ↓reduceIte, if_true, if_false, RP_v, RP_n, h1, e1, sw, hp', eK]
    · intro j hj hp
      have hp' := of_decide_eq_false hp
      have e1 : ¬ nI K ≤ nI j := nI_ge hj (by omega)
      have sw := fun d => s_winsOf (d := d) (G := G) (o := o) (u := uT u 0) (k := j) hV' hj
      rw [wns_T] at sw
      have wl : wns (u.1 0) (u.1 1) (u.1 4) K A j ≤ K := wns_le
      have e2 : ¬ nI (wns (u.1 0) (u.1 1) (u.1 4) K A j) = nI (K - 1) := fun z => hp' ((nI_eq (by omega) (by omega)).mp z)
      refine Eq.trans (by first | exact x224_16 | exact x224_16 (rf_ref _) | exact x224_16 rfl) ?_
      simp [x224_0, x224_1, x224_2, x224_5, x224_6, x224_9, x224_12, x224_13, x224_14, x224_15, x224_17, x224_18, x224_21, x224_24, x224_25, x224_26, x224_29, x224_30, x224_33, x224_34, x224_35, x224_38, x224_39, x224_40, x224_43, x224_46, x224_47, rf_ref, c1_int, c1_ref, c1_UV, mst_T0, mst_I0, mst_R0, mst_J0, mst_T, mst_N, mst_I, mst_J, mst_B, mst_sI, mst_sI0, mst_sJ, mst_sJ0, uR_s, uR_o, uR_2, uR_uR, uL_s, uL_o, uL_1, up_s, up_o, mT, mN, mR, va_rf_some, litA, litB, litM, nI_add, okZ_0, okZ_1, okZ_zb, zb_0, gB_add, inb_lit, cl_lit, Nat.lt_irrefl, ↓reduceIte, if_true, if_false, RP_v, RP_n, h1, e1, sw, e2, eK, nI_1]
    · refine Eq.trans (by first | exact x224_16 | exact x224_16 (rf_ref _) | exact x224_16 rfl) ?_
      simp [x224_0, x224_1, x224_2, x224_5, x224_6, x224_9, x224_12, x224_13, x224_14, x224_15, x224_17, x224_18, x224_21, x224_24, x224_25, x224_26, x224_29, x224_30, x224_33, x224_34, x224_35, x224_38, x224_39, x224_40, x224_43, x224_46, x224_47, rf_ref, c1_int, c1_ref, c1_UV, mst_T0, mst_I0, mst_R0, mst_J0, mst_T, mst_N, mst_I, mst_J, mst_B, mst_sI, mst_sI0, mst_sJ, mst_sJ0, uR_s, uR_o, uR_2, uR_uR, uL_s, uL_o, uL_1, up_s, up_o, mT, mN, mR, va_rf_some, litA, litB, litM, nI_add, okZ_0, okZ_1, okZ_zb, zb_0, gB_add, inb_lit, cl_lit, Nat.lt_irrefl, ↓reduceIte, if_true, if_false, RP_v, RP_n, h1]
    · cases fst (fun k => decide (wns (u.1 0) (u.1 1) (u.1 4) K A k = K - 1)) K <;> rfl
  have pre : XP PP (d + 5) 224 0 [.ref o, UV] [] (mst G o u) = XP PP (d + 5) 224 5 [.ref o, UV] [] (mst G o (uT u 0)) := by
    simp [x224_0, x224_1, x224_2, rf_ref, c1_int, c1_ref, c1_UV, mst_T0, mst_I0, mst_R0, mst_J0, mst_T, mst_N, mst_I, mst_J, mst_B, mst_sI, mst_sI0, mst_sJ, mst_sJ0, uR_s, uR_o, uR_2, uR_uR, uL_s, uL_o, uL_1, up_s, up_o, mT, mN, mR, va_rf_some, litA, litB, litM, nI_add, okZ_0, okZ_1, okZ_zb, zb_0, gB_add, inb_lit, cl_lit, Nat.lt_irrefl, ↓reduceIte, if_true, if_false, RP_v, RP_n, hb, uT]
  rw [pre]
  by_cases q : (fst (cnB (u.1 0) (u.1 4)) A).isSome = true
  · simp [x224_5, x224_6, x224_9, x224_12, x224_13, x224_14, x224_15, rf_ref, c1_int, c1_ref, c1_UV, mst_T0, mst_I0, mst_R0, mst_J0, mst_T, mst_N, mst_I, mst_J, mst_B, mst_sI, mst_sI0, mst_sJ, mst_sJ0, uR_s, uR_o, uR_2, uR_uR, uL_s, uL_o, uL_1, up_s, up_o, mT, mN, mR, va_rf_some, litA, litB, litM, nI_add, okZ_0, okZ_1, okZ_zb, zb_0, gB_add, inb_lit, cl_lit, Nat.lt_irrefl, ↓reduceIte, if_true, if_false, RP_v, RP_n, sd, q, zb_true, zb_false, hl]
  · simp [x224_5, x224_6, x224_9, x224_12, x224_13, x224_14, x224_15, rf_ref, c1_int, c1_ref, c1_UV, mst_T0, mst_I0, mst_R0, mst_J0, mst_T, mst_N, mst_I, mst_J, mst_B, mst_sI, mst_sI0, mst_sJ, mst_sJ0, uR_s, uR_o, uR_2, uR_uR, uL_s, uL_o, uL_1, up_s, up_o, mT, mN, mR, va_rf_some, litA, litB, litM, nI_add, okZ_0, okZ_1, okZ_zb, zb_0, gB_add, inb_lit, cl_lit, Nat.lt_irrefl, ↓reduceIte, if_true, if_false, RP_v, RP_n, sd, q, zb_true, zb_false]
/-- votes -/
def voF (c w r : Rw) (A : Nat) : Int32 := sm (fun a => if cnB c r a = true then w a else 0) A
theorem s_votes {A : Nat} (hb : gB G ≤ o) (h2 : u.1 0 2 = nI A) (hA : A ≤ 8) : XP PP (d + 1) 226 0 [.ref o, UV, UV] [] (mst G o u) = some (.inl (some (.int (voF (u.1 0) (u.1 1) (u.1 4) A))), mst G o (uT u 0)) := by
  have h2' : (uT u 0).1 0 2 = nI A := by rw [uT_0, up_o (by decide)]; exact h2
  have e11 : (uT u 0).1 1 = u.1 1 := uT_o (by decide)
  have hl : XP PP (d + 1) 226 9 [.ref o, .int 0, .int 0] [] (mst G o (uT u 0)) = some (.inl (some (.int (voF (u.1 0) (u.1 1) (u.1 4) A))), mst G o (uT u 0)) := by
    refine XP_for A (fun j => [.ref o, .int (voF (u.1 0) (u.1 1) (u.1 4) j), .int (nI j)]) (fun _ => mst G o (uT u 0)) ?_ ?_ 0 (Nat.zero_le _)
    · intro j hj
      have e1 : ¬ nI A ≤ nI j := nI_ge hj (by omega)
      have e2 : inb (nI j) 8 = true := inb_nI (by omega) (by omega)
      have e3 : (nI j).toNatClampNeg = j := nI_clamp (by omega)
      have sc := fun d => s_counts (d := d) (G := G) (o := o) (u := uT u 0) (a := j) (by omega)
      rw [cnB_T] at sc
      refine Eq.trans (by first | exact x226_9 | exact x226_9 (rf_ref _) | exact x226_9 rfl) ?_
      by_cases q : cnB (u.1 0) (u.1 4) j = true
      · simp [x226_0, x226_1, x226_2, x226_5, x226_6, x226_7, x226_8, x226_10, x226_11, x226_14, x226_17, x226_18, x226_19, x226_22, x226_25, x226_26, x226_27, x226_30, x226_31, x226_32, x226_33, x226_34, x226_37, x226_40, x226_41, rf_ref, c1_int, c1_ref, c1_UV, mst_T0, mst_I0, mst_R0, mst_J0, mst_T, mst_N, mst_I, mst_J, mst_B, mst_sI, mst_sI0, mst_sJ, mst_sJ0, uR_s, uR_o, uR_2, uR_uR, uL_s, uL_o, uL_1, up_s, up_o, mT, mN, mR, va_rf_some, litA, litB, litM, nI_add, okZ_0, okZ_1, okZ_zb, zb_0, gB_add, inb_lit, cl_lit, Nat.lt_irrefl, ↓reduceIte, if_true, if_false, RP_v, RP_n, h2', e1, e2, e3, e11, sc, q, voF, sm, nI_1, zb]
      · simp [x226_0, x226_1, x226_2, x226_5, x226_6, x226_7, x226_8, x226_10, x226_11, x226_14, x226_17, x226_18, x226_19, x226_22, x226_25, x226_26, x226_27, x226_30, x226_31, x226_32, x226_33, x226_34, x226_37, x226_40, x226_41, rf_ref, c1_int, c1_ref, c1_UV, mst_T0, mst_I0, mst_R0, mst_J0, mst_T, mst_N, mst_I, mst_J, mst_B, mst_sI, mst_sI0, mst_sJ, mst_sJ0, uR_s, uR_o, uR_2, uR_uR, uL_s, uL_o, uL_1, up_s, up_o, mT, mN, mR, va_rf_some, litA, litB, litM, nI_add, okZ_0, okZ_1, okZ_zb, zb_0, gB_add, inb_lit, cl_lit, Nat.lt_irrefl, ↓reduceIte, if_true, if_false, RP_v, RP_n, h2', e1, e2, e3, e11, sc, q, voF, sm, nI_1, zb]
    · refine Eq.trans (by first | exact x226_9 | exact x226_9 (rf_ref _) | exact x226_9 rfl) ?_
      simp [x226_0, x226_1, x226_2, x226_5, x226_6, x226_7, x226_8, x226_10, x226_11, x226_14, x226_17, x226_18, x226_19, x226_22, x226_25, x226_26, x226_27, x226_30, x226_31, x226_32, x226_33, x226_34, x226_37, x226_40, x226_41, rf_ref, c1_int, c1_ref, c1_UV, mst_T0, mst_I0, mst_R0, mst_J0, mst_T, mst_N, mst_I, mst_J, mst_B, mst_sI, mst_sI0, mst_sJ, mst_sJ0, uR_s, uR_o, uR_2, uR_uR, uL_s, uL_o, uL_1, up_s, up_o, mT, mN, mR, va_rf_some, litA, litB, litM, nI_add, okZ_0, okZ_1, okZ_zb, zb_0, gB_add, inb_lit, cl_lit, Nat.lt_irrefl, ↓reduceIte, if_true, if_false, RP_v, RP_n, h2']
  have pre : XP PP (d + 1) 226 0 [.ref o, UV, UV] [] (mst G o u) = XP PP (d + 1) 226 9 [.ref o, .int 0, .int 0] [] (mst G o (uT u 0)) := by
    simp [x226_0, x226_1, x226_2, x226_5, x226_6, x226_7, x226_8, rf_ref, c1_int, c1_ref, c1_UV, mst_T0, mst_I0, mst_R0, mst_J0, mst_T, mst_N, mst_I, mst_J, mst_B, mst_sI, mst_sI0, mst_sJ, mst_sJ0, uR_s, uR_o, uR_2, uR_uR, uL_s, uL_o, uL_1, up_s, up_o, mT, mN, mR, va_rf_some, litA, litB, litM, nI_add, okZ_0, okZ_1, okZ_zb, zb_0, gB_add, inb_lit, cl_lit, Nat.lt_irrefl, ↓reduceIte, if_true, if_false, RP_v, RP_n, hb, uT]
  rw [pre, hl]
end

/-! the twin: a tick -/
section
variable {d o : Nat} {G : Hp} {u : Mu}
set_option maxHeartbeats 4000000
def rem (x y : Int32) : Int32 := x - x / y * y
/-- what a tick asks of the row -/
def TI (c r : Rw) (K A n : Nat) : Prop := VW c r K A ∧ rqs r n ∧ vp_in (r 2) A ∧ ¬ r 7 < 0 ∧ (r 8 = -1 ∨ ∃ i, i < n ∧ r (118 + 6 * i) = r 8) ∧ ¬ c 4 = 0 ∧ ¬ c 3 = 0
def tk1 (c w r f : Rw) (K A : Nat) : Rw := if rem (r 0) (c 4) = 0 then orF r (tlF c w r f K A (r 1) K) K else r
def tk2 (c r : Rw) (t : Int32) (A : Nat) : Rw := if 0 < t ∧ rem t (c 3) = 0 then psF r A else r
def tk3 (r : Rw) (K n : Nat) : Rw := if r 8 = -1 then nxF r K n else r
def tk4 (r : Rw) (n : Nat) : Rw := if r 8 = -1 then r else (match fst (ixB r (r 8)) n with | some i => woF r n i | none => r)
def tickF (c w r f : Rw) (K A n : Nat) : Rw := va_up (tk4 (tk3 (tk2 c (tk1 c w r f K A) (r 0) A) K n) n) 0 (r 0 + 1)
theorem s_tick1 {K A n : Nat} (hb : gB G ≤ o) (h : TI (u.1 0) (u.1 4) K A n) : ∃ T, XP PP (d + 8) 158 0 [.ref o, UV] [] (mst G o u) = XP PP (d + 8) 158 20 [.ref o, .int (u.1 4 0)] [] (mst G o (uR (uR u 4 (tk1 (u.1 0) (u.1 1) (u.1 4) (u.1 10) K A)) 10 T)) := by
  obtain ⟨hV, hn, h2, h7, h8, c4, c3⟩ := h
  unfold tk1 rem
  by_cases q : u.1 4 0 - u.1 4 0 / u.1 0 4 * u.1 0 4 = 0
  · refine ⟨tlF (u.1 0) (u.1 1) (u.1 4) (u.1 10) K A (u.1 4 1) K, ?_⟩
    rw [if_pos q]
    simp [x158_0, x158_1, x158_4, x158_5, x158_6, x158_7, x158_8, x158_9, x158_12, x158_13, x158_16, x158_17, rf_ref, c1_int, c1_ref, c1_UV, mst_T0, mst_I0, mst_R0, mst_J0, mst_T, mst_N, mst_I, mst_J, mst_B, mst_sI, mst_sI0, mst_sJ, mst_sJ0, uR_s, uR_o, uR_2, uR_uR, uL_s, uL_o, uL_1, up_s, up_o, mT, mN, mR, va_rf_some, litA, litB, litM, nI_add, okZ_0, okZ_1, okZ_zb, zb_0, gB_add, inb_lit, cl_lit, Nat.lt_irrefl, ↓reduceIte, if_true, if_false, RP_v, RP_n, c4, q, s_ordersAnew hb hV]
  · refine ⟨u.1 10, ?_⟩
    have e : uR (uR u 4 (u.1 4)) 10 (u.1 10) = u := by rw [uR_id, uR_id]
    rw [if_neg q, e]
    simp [x158_0, x158_1, x158_4, x158_5, x158_6, x158_7, x158_8, x158_9, x158_12, x158_13, x158_16, x158_17, rf_ref, c1_int, c1_ref, c1_UV, mst_T0, mst_I0, mst_R0, mst_J0, mst_T, mst_N, mst_I, mst_J, mst_B, mst_sI, mst_sI0, mst_sJ, mst_sJ0, uR_s, uR_o, uR_2, uR_uR, uL_s, uL_o, uL_1, up_s, up_o, mT, mN, mR, va_rf_some, litA, litB, litM, nI_add, okZ_0, okZ_1, okZ_zb, zb_0, gB_add, inb_lit, cl_lit, Nat.lt_irrefl, ↓reduceIte, if_true, if_false, RP_v, RP_n, c4, q]
theorem s_tick2 {A : Nat} {t : Int32} (hb : gB G ≤ o) (hA : u.1 0 2 = nI A) (hA8 : A ≤ 8) (h2 : vp_in (u.1 4 2) A) (c3 : ¬ u.1 0 3 = 0) : XP PP (d + 8) 158 20 [.ref o, .int t] [] (mst G o u) = XP PP (d + 8) 158 37 [.ref o, .int t] [] (mst G o (uR u 4 (tk2 (u.1 0) (u.1 4) t A))) := by
  unfold tk2 rem
  by_cases q1 : 0 < t
  · by_cases q : t - t / u.1 0 3 * u.1 0 3 = 0
    · rw [if_pos ⟨q1, q⟩]
      simp [x158_20, x158_21, x158_24, x158_25, x158_26, x158_29, x158_30, x158_33, x158_34, rf_ref, c1_int, c1_ref, c1_UV, mst_T0, mst_I0, mst_R0, mst_J0, mst_T, mst_N, mst_I, mst_J, mst_B, mst_sI, mst_sI0, mst_sJ, mst_sJ0, uR_s, uR_o, uR_2, uR_uR, uL_s, uL_o, uL_1, up_s, up_o, mT, mN, mR, va_rf_some, litA, litB, litM, nI_add, okZ_0, okZ_1, okZ_zb, zb_0, gB_add, inb_lit, cl_lit, Nat.lt_irrefl, ↓reduceIte, if_true, if_false, RP_v, RP_n, c3, q1, Int32.not_le.mpr q1, q, s_passesOn hb hA hA8 h2]
    · rw [if_neg (fun z => q z.2), uR_id]
      simp [x158_20, x158_21, x158_24, x158_25, x158_26, x158_29, x158_30, x158_33, x158_34, rf_ref, c1_int, c1_ref, c1_UV, mst_T0, mst_I0, mst_R0, mst_J0, mst_T, mst_N, mst_I, mst_J, mst_B, mst_sI, mst_sI0, mst_sJ, mst_sJ0, uR_s, uR_o, uR_2, uR_uR, uL_s, uL_o, uL_1, up_s, up_o, mT, mN, mR, va_rf_some, litA, litB, litM, nI_add, okZ_0, okZ_1, okZ_zb, zb_0, gB_add, inb_lit, cl_lit, Nat.lt_irrefl, ↓reduceIte, if_true, if_false, RP_v, RP_n, c3, q1, Int32.not_le.mpr q1, q]
  · rw [if_neg (fun z => q1 z.1), uR_id]
    simp [x158_20, x158_21, x158_24, x158_25, x158_26, x158_29, x158_30, x158_33, x158_34, rf_ref, c1_int, c1_ref, c1_UV, mst_T0, mst_I0, mst_R0, mst_J0, mst_T, mst_N, mst_I, mst_J, mst_B, mst_sI, mst_sI0, mst_sJ, mst_sJ0, uR_s, uR_o, uR_2, uR_uR, uL_s, uL_o, uL_1, up_s, up_o, mT, mN, mR, va_rf_some, litA, litB, litM, nI_add, okZ_0, okZ_1, okZ_zb, zb_0, gB_add, inb_lit, cl_lit, Nat.lt_irrefl, ↓reduceIte, if_true, if_false, RP_v, RP_n, q1, Int32.not_lt.mp q1]
theorem s_tick3 {K A n : Nat} {t : Int32} (hb : gB G ≤ o) (hK : u.1 0 1 = nI K) (hK5 : K ≤ 5) (hn : rqs (u.1 4) n) : XP PP (d + 8) 158 37 [.ref o, .int t] [] (mst G o u) = XP PP (d + 8) 158 52 [.ref o, .int t] [] (mst G o (uR u 4 (tk3 (u.1 4) K n))) := by
  unfold tk3
  by_cases q : u.1 4 8 = -1
  · rw [if_pos q]
    simp [x158_37, x158_38, x158_41, x158_43, x158_44, x158_45, x158_48, x158_49, rf_ref, c1_int, c1_ref, c1_UV, mst_T0, mst_I0, mst_R0, mst_J0, mst_T, mst_N, mst_I, mst_J, mst_B, mst_sI, mst_sI0, mst_sJ, mst_sJ0, uR_s, uR_o, uR_2, uR_uR, uL_s, uL_o, uL_1, up_s, up_o, mT, mN, mR, va_rf_some, litA, litB, litM, nI_add, okZ_0, okZ_1, okZ_zb, zb_0, gB_add, inb_lit, cl_lit, Nat.lt_irrefl, ↓reduceIte, if_true, if_false, RP_v, RP_n, q, s_takesNext (A := A) hb hK hK5 hn]
  · rw [if_neg q, uR_id]
    simp [x158_37, x158_38, x158_41, x158_43, x158_44, x158_45, x158_48, x158_49, rf_ref, c1_int, c1_ref, c1_UV, mst_T0, mst_I0, mst_R0, mst_J0, mst_T, mst_N, mst_I, mst_J, mst_B, mst_sI, mst_sI0, mst_sJ, mst_sJ0, uR_s, uR_o, uR_2, uR_uR, uL_s, uL_o, uL_1, up_s, up_o, mT, mN, mR, va_rf_some, litA, litB, litM, nI_add, okZ_0, okZ_1, okZ_zb, zb_0, gB_add, inb_lit, cl_lit, Nat.lt_irrefl, ↓reduceIte, if_true, if_false, RP_v, RP_n, q]
theorem s_tick4 {n : Nat} {t : Int32} (hb : gB G ≤ o) (hn : rqs (u.1 4) n) (h7 : ¬ u.1 4 7 < 0) (h8 : u.1 4 8 = -1 ∨ ∃ i, i < n ∧ u.1 4 (118 + 6 * i) = u.1 4 8) : XP PP (d + 8) 158 52 [.ref o, .int t] [] (mst G o u) = some (.inl none, mst G o (uR u 4 (va_up (tk4 (u.1 4) n) 0 (t + 1)))) := by
  unfold tk4
  by_cases q : u.1 4 8 = -1
  · rw [if_pos q]
    simp [x158_52, x158_53, x158_56, x158_58, x158_59, x158_60, x158_63, x158_64, x158_67, x158_68, x158_71, x158_72, x158_73, x158_74, x158_75, x158_76, rf_ref, c1_int, c1_ref, c1_UV, mst_T0, mst_I0, mst_R0, mst_J0, mst_T, mst_N, mst_I, mst_J, mst_B, mst_sI, mst_sI0, mst_sJ, mst_sJ0, uR_s, uR_o, uR_2, uR_uR, uL_s, uL_o, uL_1, up_s, up_o, mT, mN, mR, va_rf_some, litA, litB, litM, nI_add, okZ_0, okZ_1, okZ_zb, zb_0, gB_add, inb_lit, cl_lit, Nat.lt_irrefl, ↓reduceIte, if_true, if_false, RP_v, RP_n, q, hb]
  · rw [if_neg q]
    cases hf : fst (ixB (u.1 4) (u.1 4 8)) n with
    | none =>
      exfalso
      rcases h8 with h | ⟨i, hi, e⟩
      · exact q h
      · have := fst_none hf i hi
        exact of_decide_eq_false this e
    | some i =>
      have sw := s_worksOn (d := d + 5) hb hn hf h7
      simp [x158_52, x158_53, x158_56, x158_58, x158_59, x158_60, x158_63, x158_64, x158_67, x158_68, x158_71, x158_72, x158_73, x158_74, x158_75, x158_76, rf_ref, c1_int, c1_ref, c1_UV, mst_T0, mst_I0, mst_R0, mst_J0, mst_T, mst_N, mst_I, mst_J, mst_B, mst_sI, mst_sI0, mst_sJ, mst_sJ0, uR_s, uR_o, uR_2, uR_uR, uL_s, uL_o, uL_1, up_s, up_o, mT, mN, mR, va_rf_some, litA, litB, litM, nI_add, okZ_0, okZ_1, okZ_zb, zb_0, gB_add, inb_lit, cl_lit, Nat.lt_irrefl, ↓reduceIte, if_true, if_false, RP_v, RP_n, q, hb, sw]
end

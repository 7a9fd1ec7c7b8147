/-! the twin: ballots -/
section
variable {d o : Nat} {G : Hp} {u : Mu}
set_option maxHeartbeats 4000000
set_option maxRecDepth 20000
/-- isBallot: from place p down: the rest of the code, what was seen, the row; none: no ballot -/
def ibF (K : Nat) : Nat → Int32 → Int32 → Rw → Option (Int32 × Rw) × Rw
  | 0, rest, _, f => (some (rest, f), f)
  | p + 1, rest, seen, f =>
    let k := rem rest 10
    if irB k 0 (nI K - 1) = true ∧ hasB seen k = false then ibF K p (rest / 10) (seen ||| (1 <<< (k &&& 31))) (va_up f p k) else (none, f)
def ibB (K : Nat) (code : Int32) (f : Rw) : Bool := match (ibF K K code 0 f).1 with
  | some (r, _) => decide (r = 0)
  | none => false
def ibR (K : Nat) (code : Int32) (f : Rw) : Rw := (ibF K K code 0 f).2
theorem ibF_2 {K : Nat} : ∀ (p : Nat) (rest seen : Int32) (f : Rw) (r : Int32) (g : Rw), (ibF K p rest seen f).1 = some (r, g) → (ibF K p rest seen f).2 = g := by
  intro p
  induction p with
  | zero => intro rest seen f r g h; cases h; rfl
  | succ p ih =>
    intro rest seen f r g h
    rw [ibF] at h ⊢
    split
    · rename_i q
      rw [if_pos q] at h
      exact ih _ _ _ _ _ h
    · rename_i q
      rw [if_neg q] at h
      cases h
theorem s_isBallot {K : Nat} {code : Int32} (hb : gB G ≤ o) (h1 : u.1 0 1 = nI K) (h1K : 1 ≤ K) (hK : K ≤ 5) : XP PP (d + 2) 194 0 [.ref o, .int code, UV, UV, UV, UV] [] (mst G o u) = some (.inl (some (.int (zb (ibB K code (u.1 10))))), mst G o (uR u 10 (ibR K code (u.1 10)))) := by
  have hl : ∀ (p : Nat), p ≤ K → ∀ (rest seen : Int32) (f : Rw) (v5 : Value), XP PP (d + 2) 194 12 [.ref o, .int code, .int rest, .int seen, .int (nI p - 1), v5] [] (mst G o (uR u 10 f)) =
      some (.inl (some (.int (zb (match (ibF K p rest seen f).1 with | some (r, _) => decide (r = 0) | none => false)))), mst G o (uR u 10 (ibF K p rest seen f).2)) := by
    intro p
    induction p with
    | zero =>
      intro hp rest seen f v5
      have e : nI 0 - 1 < 0 := by decide
      refine Eq.trans (by first | exact x194_12 | exact x194_12 (rf_ref _) | exact x194_12 rfl) ?_
      by_cases q : rest = 0
      · simp [x194_0, x194_1, x194_2, x194_3, x194_4, x194_5, x194_8, x194_9, x194_10, x194_14, x194_17, x194_18, x194_20, x194_21, x194_23, x194_24, x194_26, x194_27, x194_28, x194_29, x194_31, x194_34, x194_37, x194_38, x194_40, x194_43, x194_46, x194_47, x194_48, x194_49, x194_50, x194_52, x194_53, x194_54, x194_55, x194_56, x194_59, x194_61, x194_63, x194_64, x194_67, x194_70, x194_71, x194_74, x194_75, x194_78, x194_79, rf_ref, c1_int, c1_ref, c1_UV, mst_T0, mst_I0, mst_R0, mst_J0, mst_T, mst_N, mst_I, mst_J, mst_B, mst_sI, mst_sI0, mst_sJ, mst_sJ0, uR_s, uR_o, uR_2, uR_uR, uL_s, uL_o, uL_1, up_s, up_o, mT, mN, mR, va_rf_some, litA, litB, litM, nI_add, okZ_0, okZ_1, okZ_zb, zb_0, gB_add, inb_lit, cl_lit, Nat.lt_irrefl, ↓reduceIte, if_true, if_false, RP_v, RP_n, e, q, ibF, zb]
      · simp [x194_0, x194_1, x194_2, x194_3, x194_4, x194_5, x194_8, x194_9, x194_10, x194_14, x194_17, x194_18, x194_20, x194_21, x194_23, x194_24, x194_26, x194_27, x194_28, x194_29, x194_31, x194_34, x194_37, x194_38, x194_40, x194_43, x194_46, x194_47, x194_48, x194_49, x194_50, x194_52, x194_53, x194_54, x194_55, x194_56, x194_59, x194_61, x194_63, x194_64, x194_67, x194_70, x194_71, x194_74, x194_75, x194_78, x194_79, rf_ref, c1_int, c1_ref, c1_UV, mst_T0, mst_I0, mst_R0, mst_J0, mst_T, mst_N, mst_I, mst_J, mst_B, mst_sI, mst_sI0, mst_sJ, mst_sJ0, uR_s, uR_o, uR_2, uR_uR, uL_s, uL_o, uL_1, up_s, up_o, mT, mN, mR, va_rf_some, litA, litB, litM, nI_add, okZ_0, okZ_1, okZ_zb, zb_0, gB_add, inb_lit, cl_lit, Nat.lt_irrefl, ↓reduceIte, if_true, if_false, RP_v, RP_n, e, q, ibF, zb]
    | succ p ih =>
      intro hp rest seen f v5
      have e1 : nI (p + 1) - 1 = nI p := nI_sub (b := 1) (by omega)
      have e2 : ¬ nI p < 0 := nI_nn (by omega)
      have c1' : inb (nI p) 5 = true := inb_nI (by omega) (by omega)
      have d1 : (nI p).toNatClampNeg = p := nI_clamp (by omega)
      have sc := fun d k => s_isClass' (d := d) (G := G) (o := o) (u := uR u 10 f) (x := k)
      rw [uR_o (by decide), h1] at sc
      rw [e1, ibF]
      unfold rem
      refine Eq.trans (by first | exact x194_12 | exact x194_12 (rf_ref _) | exact x194_12 rfl) ?_
      by_cases q1 : irB (rest - rest / 10 * 10) 0 (nI K - 1) = true
      · by_cases q2 : hasB seen (rest - rest / 10 * 10) = false
        · have ih' := ih (by omega) (rest / 10) (seen ||| (1 <<< ((rest - rest / 10 * 10) &&& 31))) (va_up f p (rest - rest / 10 * 10)) (.int (rest - rest / 10 * 10))
          simp only [q1, q2, and_self, if_true]
          simp [x194_0, x194_1, x194_2, x194_3, x194_4, x194_5, x194_8, x194_9, x194_10, x194_14, x194_17, x194_18, x194_20, x194_21, x194_23, x194_24, x194_26, x194_27, x194_28, x194_29, x194_31, x194_34, x194_37, x194_38, x194_40, x194_43, x194_46, x194_47, x194_48, x194_49, x194_50, x194_52, x194_53, x194_54, x194_55, x194_56, x194_59, x194_61, x194_63, x194_64, x194_67, x194_70, x194_71, x194_74, x194_75, x194_78, x194_79, rf_ref, c1_int, c1_ref, c1_UV, mst_T0, mst_I0, mst_R0, mst_J0, mst_T, mst_N, mst_I, mst_J, mst_B, mst_sI, mst_sI0, mst_sJ, mst_sJ0, uR_s, uR_o, uR_2, uR_uR, uL_s, uL_o, uL_1, up_s, up_o, mT, mN, mR, va_rf_some, litA, litB, litM, nI_add, okZ_0, okZ_1, okZ_zb, zb_0, gB_add, inb_lit, cl_lit, Nat.lt_irrefl, ↓reduceIte, if_true, if_false, RP_v, RP_n, e2, sc, q1, q2, s_has, zb_true, zb_false, c1', d1, hb]
          rw [← Int32.sub_eq_add_neg]
          exact ih'
        · simp only [q1, q2, and_false, if_false]
          simp [x194_0, x194_1, x194_2, x194_3, x194_4, x194_5, x194_8, x194_9, x194_10, x194_14, x194_17, x194_18, x194_20, x194_21, x194_23, x194_24, x194_26, x194_27, x194_28, x194_29, x194_31, x194_34, x194_37, x194_38, x194_40, x194_43, x194_46, x194_47, x194_48, x194_49, x194_50, x194_52, x194_53, x194_54, x194_55, x194_56, x194_59, x194_61, x194_63, x194_64, x194_67, x194_70, x194_71, x194_74, x194_75, x194_78, x194_79, rf_ref, c1_int, c1_ref, c1_UV, mst_T0, mst_I0, mst_R0, mst_J0, mst_T, mst_N, mst_I, mst_J, mst_B, mst_sI, mst_sI0, mst_sJ, mst_sJ0, uR_s, uR_o, uR_2, uR_uR, uL_s, uL_o, uL_1, up_s, up_o, mT, mN, mR, va_rf_some, litA, litB, litM, nI_add, okZ_0, okZ_1, okZ_zb, zb_0, gB_add, inb_lit, cl_lit, Nat.lt_irrefl, ↓reduceIte, if_true, if_false, RP_v, RP_n, e2, sc, q1, bt q2, s_has, zb_true, zb_false]
      · simp only [q1, false_and, if_false]
        simp [x194_0, x194_1, x194_2, x194_3, x194_4, x194_5, x194_8, x194_9, x194_10, x194_14, x194_17, x194_18, x194_20, x194_21, x194_23, x194_24, x194_26, x194_27, x194_28, x194_29, x194_31, x194_34, x194_37, x194_38, x194_40, x194_43, x194_46, x194_47, x194_48, x194_49, x194_50, x194_52, x194_53, x194_54, x194_55, x194_56, x194_59, x194_61, x194_63, x194_64, x194_67, x194_70, x194_71, x194_74, x194_75, x194_78, x194_79, rf_ref, c1_int, c1_ref, c1_UV, mst_T0, mst_I0, mst_R0, mst_J0, mst_T, mst_N, mst_I, mst_J, mst_B, mst_sI, mst_sI0, mst_sJ, mst_sJ0, uR_s, uR_o, uR_2, uR_uR, uL_s, uL_o, uL_1, up_s, up_o, mT, mN, mR, va_rf_some, litA, litB, litM, nI_add, okZ_0, okZ_1, okZ_zb, zb_0, gB_add, inb_lit, cl_lit, Nat.lt_irrefl, ↓reduceIte, if_true, if_false, RP_v, RP_n, e2, sc, q1, zb_true, zb_false]
  have h0 := hl K (Nat.le_refl K) code 0 (u.1 10) UV
  rw [uR_id] at h0
  simp [x194_0, x194_1, x194_2, x194_3, x194_4, x194_5, x194_8, x194_9, x194_10, rf_ref, c1_int, c1_ref, c1_UV, mst_T0, mst_I0, mst_R0, mst_J0, mst_T, mst_N, mst_I, mst_J, mst_B, mst_sI, mst_sI0, mst_sJ, mst_sJ0, uR_s, uR_o, uR_2, uR_uR, uL_s, uL_o, uL_1, up_s, up_o, mT, mN, mR, va_rf_some, litA, litB, litM, nI_add, okZ_0, okZ_1, okZ_zb, zb_0, gB_add, inb_lit, cl_lit, Nat.lt_irrefl, ↓reduceIte, if_true, if_false, RP_v, RP_n, h1, h0]
  exact ⟨rfl, rfl⟩
end

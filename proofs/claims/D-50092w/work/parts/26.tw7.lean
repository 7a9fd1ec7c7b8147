/-! the twin: an answer, a tick -/
section
variable {d o : Nat} {G : Hp} {u : Mu}
set_option maxHeartbeats 4000000
/-- a request is taken out of n -/
def toF (r : Rw) (n i : Nat) : Rw := va_cpy (va_up r 9 (nI (n - 1))) (va_up r 9 (nI (n - 1))) (124 + 6 * i) (118 + 6 * i) (6 * (n - 1 - i))
theorem cpy_m {α : Type} (g : Nat → α) {sp dp n : Nat} (h : dp ≤ sp) : va_up (va_cpy g g sp dp n) (dp + n) (va_cpy g g sp dp n (sp + n)) = va_cpy g g sp dp (n + 1) := by
  rw [cpy_o (k := sp + n) g g (by omega), cpy_s]
theorem nI_sub {a b : Nat} (h : b ≤ a) : nI a - nI b = nI (a - b) := by
  have : nI a = nI (a - b) + nI b := by rw [nI_add, Nat.sub_add_cancel h]
  rw [this, Int32.add_sub_cancel]
theorem s_takesOut {n i : Nat} (hb : gB G ≤ o) (h9 : u.1 4 9 = nI n) (hn : n ≤ 40) (hi : i < n) : XP PP d 185 0 [.ref o, .int (nI i), UV] [] (mst G o u) = some (.inl (none), mst G o (uR u 4 (toF (u.1 4) n i))) := by
  obtain ⟨m, rfl⟩ : ∃ m, n = m + 1 := ⟨n - 1, by omega⟩
  have e0 : nI (m + 1) - 1 = nI m := nI_sub (a := m + 1) (b := 1) (by omega)
  have hl : ∀ b, b = 118 + 6 * i → XP PP d 185 24 [.ref o, .int (nI i), .int (nI b)] [] (mst G o (uR u 4 (va_up (u.1 4) 9 (nI m)))) = some (.inl none, mst G o (uR u 4 (va_cpy (va_up (u.1 4) 9 (nI m)) (va_up (u.1 4) 9 (nI m)) (b + 6) b (6 * (m - i))))) := by
    intro b hbe
    refine Eq.trans (congrArg (fun z => XP PP d 185 24 [.ref o, .int (nI i), .int (nI b)] [] (mst G o (uR u 4 z))) (cpy_0 (va_up (u.1 4) 9 (nI m)) (va_up (u.1 4) 9 (nI m)) (b + 6) b).symm) ?_
    refine XP_for (6 * (m - i)) (fun k => [.ref o, .int (nI i), .int (nI (b + k))]) (fun k => mst G o (uR u 4 (va_cpy (va_up (u.1 4) 9 (nI m)) (va_up (u.1 4) 9 (nI m)) (b + 6) b k))) ?_ ?_ 0 (Nat.zero_le _)
    · intro k hk
      have e1 : ¬ nI (118 + 6 * m) ≤ nI (b + k) := nI_ge (by omega) (by omega)
      have i1 : inb (nI (b + k)) 718 = true := inb_nI (by omega) (by omega)
      have i2 : (nI (b + k)).toNatClampNeg = b + k := nI_clamp (by omega)
      have i3 : inb (nI (b + k + 6)) 718 = true := inb_nI (by omega) (by omega)
      have i4 : (nI (b + k + 6)).toNatClampNeg = b + 6 + k := (nI_clamp (by omega)).trans (by omega)
      have c9 : va_cpy (va_up (u.1 4) 9 (nI m)) (va_up (u.1 4) 9 (nI m)) (b + 6) b k 9 = nI m := by rw [cpy_o _ _ (by omega), up_s]
      have cs := cpy_m (va_up (u.1 4) 9 (nI m)) (sp := b + 6) (dp := b) (n := k) (by omega)
      refine Eq.trans (by first | exact x185_24 | exact x185_24 (rf_ref _) | exact x185_24 rfl) ?_
      simp [x185_0, x185_1, x185_4, x185_6, x185_7, x185_10, x185_12, x185_13, x185_14, x185_15, x185_16, x185_18, x185_20, x185_21, x185_22, x185_23, x185_25, x185_27, x185_29, x185_30, x185_33, x185_35, x185_36, x185_37, x185_38, x185_41, x185_42, x185_45, x185_46, x185_47, x185_50, x185_51, x185_53, x185_54, x185_55, x185_56, x185_59, x185_62, rf_ref, c1_int, c1_ref, c1_UV, mst_T0, mst_I0, mst_R0, mst_J0, mst_T, mst_N, mst_I, mst_J, mst_B, mst_sI, mst_sI0, mst_sJ, mst_sJ0, uR_s, uR_o, uR_2, uR_uR, uL_s, uL_o, uL_1, up_s, up_o, mT, mN, mR, va_rf_some, litA, litB, litM, nI_add, okZ_0, okZ_1, okZ_zb, zb_0, gB_add, inb_lit, cl_lit, Nat.lt_irrefl, ↓reduceIte, if_true, if_false, RP_v, RP_n, e1, i1, i2, i3, i4, hb, cs, c9, nI_1]
      rfl
    · have c9 : va_cpy (va_up (u.1 4) 9 (nI m)) (va_up (u.1 4) 9 (nI m)) (b + 6) b (6 * (m - i)) 9 = nI m := by rw [cpy_o _ _ (by omega), up_s]
      have e1 : nI (118 + 6 * m) ≤ nI (b + 6 * (m - i)) := nI_le (by omega) (by omega)
      refine Eq.trans (by first | exact x185_24 | exact x185_24 (rf_ref _) | exact x185_24 rfl) ?_
      simp [x185_0, x185_1, x185_4, x185_6, x185_7, x185_10, x185_12, x185_13, x185_14, x185_15, x185_16, x185_18, x185_20, x185_21, x185_22, x185_23, x185_25, x185_27, x185_29, x185_30, x185_33, x185_35, x185_36, x185_37, x185_38, x185_41, x185_42, x185_45, x185_46, x185_47, x185_50, x185_51, x185_53, x185_54, x185_55, x185_56, x185_59, x185_62, rf_ref, c1_int, c1_ref, c1_UV, mst_T0, mst_I0, mst_R0, mst_J0, mst_T, mst_N, mst_I, mst_J, mst_B, mst_sI, mst_sI0, mst_sJ, mst_sJ0, uR_s, uR_o, uR_2, uR_uR, uL_s, uL_o, uL_1, up_s, up_o, mT, mN, mR, va_rf_some, litA, litB, litM, nI_add, okZ_0, okZ_1, okZ_zb, zb_0, gB_add, inb_lit, cl_lit, Nat.lt_irrefl, ↓reduceIte, if_true, if_false, RP_v, RP_n, hb, c9, e1]
  have h0 := hl (118 + 6 * i) rfl
  rw [show 118 + 6 * i + 6 = 124 + 6 * i by omega] at h0
  unfold toF
  simp [x185_0, x185_1, x185_4, x185_6, x185_7, x185_10, x185_12, x185_13, x185_14, x185_15, x185_16, x185_18, x185_20, x185_21, x185_22, x185_23, rf_ref, c1_int, c1_ref, c1_UV, mst_T0, mst_I0, mst_R0, mst_J0, mst_T, mst_N, mst_I, mst_J, mst_B, mst_sI, mst_sI0, mst_sJ, mst_sJ0, uR_s, uR_o, uR_2, uR_uR, uL_s, uL_o, uL_1, up_s, up_o, mT, mN, mR, va_rf_some, litA, litB, litM, nI_add, okZ_0, okZ_1, okZ_zb, zb_0, gB_add, inb_lit, cl_lit, Nat.lt_irrefl, ↓reduceIte, if_true, if_false, RP_v, RP_n, h9, e0, hb, h0]
end

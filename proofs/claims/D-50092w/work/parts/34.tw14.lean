/-! the twin: rows copied, history -/
def Zr (r : Rw) : Prop := ∀ k, 718 ≤ k → r k = 0
theorem cpy_all {f g : Rw} (hf : Zr f) (hg : Zr g) : va_cpy f g 0 0 718 = f := by
  funext k
  unfold va_cpy
  by_cases h : 0 ≤ k ∧ k < 0 + 718
  · rw [if_pos h]; congr 1; omega
  · rw [if_neg h, hg k (by omega), hf k (by omega)]
theorem cpy_k {α : Type} (f g : Nat → α) (n : Nat) : va_up (va_cpy f g 0 0 n) n (f n) = va_cpy f g 0 0 (n + 1) := by
  have := cpy_s f g 0 0 n
  simp only [Nat.zero_add] at this
  exact this
section
variable {d o : Nat} {G : Hp} {u : Mu}
set_option maxHeartbeats 4000000
theorem s_copies {i j : Nat} (hb : gB G ≤ o) (hi : 4 ≤ i ∧ i ≤ 8) (hj : 4 ≤ j ∧ j ≤ 8) (hne : ¬ i = j) (h1 : Zr (u.1 i)) (h2 : Zr (u.1 j)) :
    XP PP d 146 0 [.ref (o + i), .ref (o + j), UV] [] (mst G o u) = some (.inl none, mst G o (uR u j (u.1 i))) := by
  have ti : mT i = 100 := by have : i = 4 ∨ i = 5 ∨ i = 6 ∨ i = 7 ∨ i = 8 := by omega
                             rcases this with rfl | rfl | rfl | rfl | rfl <;> rfl
  have tj : mT j = 100 := by have : j = 4 ∨ j = 5 ∨ j = 6 ∨ j = 7 ∨ j = 8 := by omega
                             rcases this with rfl | rfl | rfl | rfl | rfl <;> rfl
  have ni : mN i = 718 := by have : i = 4 ∨ i = 5 ∨ i = 6 ∨ i = 7 ∨ i = 8 := by omega
                             rcases this with rfl | rfl | rfl | rfl | rfl <;> rfl
  have nj : mN j = 718 := by have : j = 4 ∨ j = 5 ∨ j = 6 ∨ j = 7 ∨ j = 8 := by omega
                             rcases this with rfl | rfl | rfl | rfl | rfl <;> rfl
  have hl : XP PP d 146 2 [.ref (o + i), .ref (o + j), .int 0] [] (mst G o (uR u j (va_cpy (u.1 i) (u.1 j) 0 0 0))) = some (.inl none, mst G o (uR u j (u.1 i))) := by
    refine XP_for 718 (fun k => [.ref (o + i), .ref (o + j), .int (nI k)]) (fun k => mst G o (uR u j (va_cpy (u.1 i) (u.1 j) 0 0 k))) ?_ ?_ 0 (Nat.zero_le _)
    · intro k hk
      have e1 : ¬ (718 : Int32) ≤ nI k := nI_ge (b := 718) hk (by omega)
      have i1 : inb (nI k) 718 = true := inb_nI hk (by omega)
      have i2 : (nI k).toNatClampNeg = k := nI_clamp (by omega)
      have hi18 : i < 18 := by omega
      have hj18 : j < 18 := by omega
      refine Eq.trans (by first | exact x146_2 | exact x146_2 (rf_ref _) | exact x146_2 rfl) ?_
      simp [x146_0, x146_1, x146_3, x146_6, x146_9, x146_10, x146_11, x146_12, x146_13, x146_14, x146_15, x146_18, x146_21, rf_ref, c1_int, c1_ref, RP_v, RP_n, mst_T hi18, mst_T hj18, mst_N hi18, mst_N hj18, mst_I hi18, mst_sI hj18, mst_B, ti, tj, ni, nj, e1, i1, i2, uR_o hne, uR_s, uR_uR, gB_add hb, cpy_k, nI_1]
    · refine Eq.trans (by first | exact x146_2 | exact x146_2 (rf_ref _) | exact x146_2 rfl) ?_
      simp [x146_0, x146_1, x146_3, x146_6, x146_9, x146_10, x146_11, x146_12, x146_13, x146_14, x146_15, x146_18, x146_21, rf_ref, c1_int, c1_ref, c1_UV, mst_T0, mst_I0, mst_R0, mst_J0, mst_T, mst_N, mst_I, mst_J, mst_B, mst_sI, mst_sI0, mst_sJ, mst_sJ0, uR_s, uR_o, uR_2, uR_uR, uL_s, uL_o, uL_1, up_s, up_o, mT, mN, mR, va_rf_some, litA, litB, litM, nI_add, okZ_0, okZ_1, okZ_zb, zb_0, gB_add, inb_lit, cl_lit, Nat.lt_irrefl, ↓reduceIte, if_true, if_false, RP_v, RP_n, cpy_all h1 h2, show ((718 : Int32) ≤ nI 718) from Int32.le_refl _]
  rw [cpy_0, uR_id] at hl
  simp [x146_0, x146_1, rf_ref, c1_int, c1_ref, c1_UV, mst_T0, mst_I0, mst_R0, mst_J0, mst_T, mst_N, mst_I, mst_J, mst_B, mst_sI, mst_sI0, mst_sJ, mst_sJ0, uR_s, uR_o, uR_2, uR_uR, uL_s, uL_o, uL_1, up_s, up_o, mT, mN, mR, va_rf_some, litA, litB, litM, nI_add, okZ_0, okZ_1, okZ_zb, zb_0, gB_add, inb_lit, cl_lit, Nat.lt_irrefl, ↓reduceIte, if_true, if_false, RP_v, RP_n, hl]
/-- the rows of the world -/
def WZ (u : Mu) : Prop := ∀ j, 4 ≤ j → j ≤ 8 → Zr (u.1 j)
theorem s_starts (hb : gB G ≤ o) (hz : WZ u) : XP PP (d + 1) 155 0 [.ref o] [] (mst G o u) = some (.inl (none), mst G o (uR u 6 (u.1 4))) := by
  have := s_copies (d := d) (u := u) (i := 4) (j := 6) hb (by omega) (by omega) (by omega) (hz 4 (by omega) (by omega)) (hz 6 (by omega) (by omega))
  simp [x155_0, x155_1, x155_4, x155_5, x155_8, x155_11, rf_ref, c1_int, c1_ref, c1_UV, mst_T0, mst_I0, mst_R0, mst_J0, mst_T, mst_N, mst_I, mst_J, mst_B, mst_sI, mst_sI0, mst_sJ, mst_sJ0, uR_s, uR_o, uR_2, uR_uR, uL_s, uL_o, uL_1, up_s, up_o, mT, mN, mR, va_rf_some, litA, litB, litM, nI_add, okZ_0, okZ_1, okZ_zb, zb_0, gB_add, inb_lit, cl_lit, Nat.lt_irrefl, ↓reduceIte, if_true, if_false, RP_v, RP_n, this]
theorem s_tries (hb : gB G ≤ o) (hz : WZ u) : XP PP (d + 1) 241 0 [.ref o] [] (mst G o u) = some (.inl (none), mst G o (uR u 7 (u.1 4))) := by
  have := s_copies (d := d) (u := u) (i := 4) (j := 7) hb (by omega) (by omega) (by omega) (hz 4 (by omega) (by omega)) (hz 7 (by omega) (by omega))
  simp [x241_0, x241_1, x241_4, x241_5, x241_8, x241_11, rf_ref, c1_int, c1_ref, c1_UV, mst_T0, mst_I0, mst_R0, mst_J0, mst_T, mst_N, mst_I, mst_J, mst_B, mst_sI, mst_sI0, mst_sJ, mst_sJ0, uR_s, uR_o, uR_2, uR_uR, uL_s, uL_o, uL_1, up_s, up_o, mT, mN, mR, va_rf_some, litA, litB, litM, nI_add, okZ_0, okZ_1, okZ_zb, zb_0, gB_add, inb_lit, cl_lit, Nat.lt_irrefl, ↓reduceIte, if_true, if_false, RP_v, RP_n, this]
theorem s_laysBack {v : Int32} (hb : gB G ≤ o) (hz : WZ u) : XP PP (d + 1) 242 0 [.ref o, .int v] [] (mst G o u) = some (.inl (some (.int v)), mst G o (uR u 4 (u.1 7))) := by
  have := s_copies (d := d) (u := u) (i := 7) (j := 4) hb (by omega) (by omega) (by omega) (hz 7 (by omega) (by omega)) (hz 4 (by omega) (by omega))
  simp [x242_0, x242_1, x242_4, x242_5, x242_8, x242_11, x242_12, rf_ref, c1_int, c1_ref, c1_UV, mst_T0, mst_I0, mst_R0, mst_J0, mst_T, mst_N, mst_I, mst_J, mst_B, mst_sI, mst_sI0, mst_sJ, mst_sJ0, uR_s, uR_o, uR_2, uR_uR, uL_s, uL_o, uL_1, up_s, up_o, mT, mN, mR, va_rf_some, litA, litB, litM, nI_add, okZ_0, okZ_1, okZ_zb, zb_0, gB_add, inb_lit, cl_lit, Nat.lt_irrefl, ↓reduceIte, if_true, if_false, RP_v, RP_n, this]
theorem s_saveState (hb : gB G ≤ o) (hz : WZ u) : XP PP (d + 1) 150 0 [.ref o] [] (mst G o u) = some (.inl (some (.int (u.1 4 0))), mst G o (uR (uR u 0 (va_up (va_up (u.1 0) 0 0) 18 1)) 8 (u.1 4))) := by
  have := s_copies (d := d) (u := uR u 0 (va_up (u.1 0) 0 0)) (i := 4) (j := 8) hb (by omega) (by omega) (by omega) (hz 4 (by omega) (by omega)) (hz 8 (by omega) (by omega))
  rw [uR_o (by decide)] at this
  simp [x150_0, x150_1, x150_2, x150_5, x150_6, x150_9, x150_10, x150_13, x150_16, x150_17, x150_18, x150_21, x150_22, x150_25, x150_26, x150_27, rf_ref, c1_int, c1_ref, c1_UV, mst_T0, mst_I0, mst_R0, mst_J0, mst_T, mst_N, mst_I, mst_J, mst_B, mst_sI, mst_sI0, mst_sJ, mst_sJ0, uR_s, uR_o, uR_2, uR_uR, uL_s, uL_o, uL_1, up_s, up_o, mT, mN, mR, va_rf_some, litA, litB, litM, nI_add, okZ_0, okZ_1, okZ_zb, zb_0, gB_add, inb_lit, cl_lit, Nat.lt_irrefl, ↓reduceIte, if_true, if_false, RP_v, RP_n, this, hb, okZ_1, uc1_0, uc4_0, uc4_1, uc5_0, uc5_1, uc5_4, uc6_0, uc6_1, uc6_4, uc6_5, uc7_0, uc7_1, uc7_4, uc7_5, uc7_6, uc8_0, uc8_1, uc8_4, uc8_5, uc8_6, uc8_7, uc9_0, uc9_1, uc9_4, uc9_5, uc9_6, uc9_7, uc9_8, uc10_0, uc10_1, uc10_4, uc10_5, uc10_6, uc10_7, uc10_8, uc10_9, uc11_0, uc11_1, uc11_4, uc11_5, uc11_6, uc11_7, uc11_8, uc11_9, uc11_10, uc12_0, uc12_1, uc12_4, uc12_5, uc12_6, uc12_7, uc12_8, uc12_9, uc12_10, uc12_11, uc13_0, uc13_1, uc13_4, uc13_5, uc13_6, uc13_7, uc13_8, uc13_9, uc13_10, uc13_11, uc13_12, uc14_0, uc14_1, uc14_4, uc14_5, uc14_6, uc14_7, uc14_8, uc14_9, uc14_10, uc14_11, uc14_12, uc14_13, uc17_0, uc17_1, uc17_4, uc17_5, uc17_6, uc17_7, uc17_8, uc17_9, uc17_10, uc17_11, uc17_12, uc17_13, uc17_14]
theorem s_restoreState (hb : gB G ≤ o) (hz : WZ u) (b : Bool) (h18 : u.1 0 18 = zb b) : XP PP (d + 1) 151 0 [.ref o] [] (mst G o u) = some (.inl (some (.int (if b = true then u.1 8 0 else 0))), mst G o (if b = true then uR (uR u 0 (va_up (va_up (u.1 0) 0 0) 17 0)) 4 (u.1 8) else uT u 1)) := by
  cases b
  · simp [x151_0, x151_1, x151_2, x151_5, x151_8, x151_11, x151_12, x151_13, x151_14, x151_17, x151_18, x151_21, x151_24, x151_25, x151_26, x151_29, x151_30, x151_33, x151_34, x151_35, rf_ref, c1_int, c1_ref, c1_UV, mst_T0, mst_I0, mst_R0, mst_J0, mst_T, mst_N, mst_I, mst_J, mst_B, mst_sI, mst_sI0, mst_sJ, mst_sJ0, uR_s, uR_o, uR_2, uR_uR, uL_s, uL_o, uL_1, up_s, up_o, mT, mN, mR, va_rf_some, litA, litB, litM, nI_add, okZ_0, okZ_1, okZ_zb, zb_0, gB_add, inb_lit, cl_lit, Nat.lt_irrefl, ↓reduceIte, if_true, if_false, RP_v, RP_n, h18, s_is hb]
  · have := s_copies (d := d) (u := uT u 0) (i := 8) (j := 4) hb (by omega) (by omega) (by omega) (hz 8 (by omega) (by omega)) (hz 4 (by omega) (by omega))
    simp [x151_0, x151_1, x151_2, x151_5, x151_8, x151_11, x151_12, x151_13, x151_14, x151_17, x151_18, x151_21, x151_24, x151_25, x151_26, x151_29, x151_30, x151_33, x151_34, x151_35, rf_ref, c1_int, c1_ref, c1_UV, mst_T0, mst_I0, mst_R0, mst_J0, mst_T, mst_N, mst_I, mst_J, mst_B, mst_sI, mst_sI0, mst_sJ, mst_sJ0, uR_s, uR_o, uR_2, uR_uR, uL_s, uL_o, uL_1, up_s, up_o, mT, mN, mR, va_rf_some, litA, litB, litM, nI_add, okZ_0, okZ_1, okZ_zb, zb_0, gB_add, inb_lit, cl_lit, Nat.lt_irrefl, ↓reduceIte, if_true, if_false, RP_v, RP_n, h18, s_is hb, uT] at this ⊢
    simp [x151_0, x151_1, x151_2, x151_5, x151_8, x151_11, x151_12, x151_13, x151_14, x151_17, x151_18, x151_21, x151_24, x151_25, x151_26, x151_29, x151_30, x151_33, x151_34, x151_35, rf_ref, c1_int, c1_ref, c1_UV, mst_T0, mst_I0, mst_R0, mst_J0, mst_T, mst_N, mst_I, mst_J, mst_B, mst_sI, mst_sI0, mst_sJ, mst_sJ0, uR_s, uR_o, uR_2, uR_uR, uL_s, uL_o, uL_1, up_s, up_o, mT, mN, mR, va_rf_some, litA, litB, litM, nI_add, okZ_0, okZ_1, okZ_zb, zb_0, gB_add, inb_lit, cl_lit, Nat.lt_irrefl, ↓reduceIte, if_true, if_false, RP_v, RP_n, this, hb, uc1_0, uc4_0, uc4_1, uc5_0, uc5_1, uc5_4, uc6_0, uc6_1, uc6_4, uc6_5, uc7_0, uc7_1, uc7_4, uc7_5, uc7_6, uc8_0, uc8_1, uc8_4, uc8_5, uc8_6, uc8_7, uc9_0, uc9_1, uc9_4, uc9_5, uc9_6, uc9_7, uc9_8, uc10_0, uc10_1, uc10_4, uc10_5, uc10_6, uc10_7, uc10_8, uc10_9, uc11_0, uc11_1, uc11_4, uc11_5, uc11_6, uc11_7, uc11_8, uc11_9, uc11_10, uc12_0, uc12_1, uc12_4, uc12_5, uc12_6, uc12_7, uc12_8, uc12_9, uc12_10, uc12_11, uc13_0, uc13_1, uc13_4, uc13_5, uc13_6, uc13_7, uc13_8, uc13_9, uc13_10, uc13_11, uc13_12, uc14_0, uc14_1, uc14_4, uc14_5, uc14_6, uc14_7, uc14_8, uc14_9, uc14_10, uc14_11, uc14_12, uc14_13, uc17_0, uc17_1, uc17_4, uc17_5, uc17_6, uc17_7, uc17_8, uc17_9, uc17_10, uc17_11, uc17_12, uc17_13, uc17_14]
end

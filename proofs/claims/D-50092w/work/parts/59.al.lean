/-! the JDK: ArrayList's size, get, remove -/
/-- a list at a: m elements, in cell e -/
def AL (G : Hp) (a e m : Nat) : Prop := gT G a = 13 ∧ gR G a 1 = some e ∧ gI G a 2 = nI m ∧ gT G e = 110 ∧ m ≤ gN G e ∧ m ≤ 1000000
def rmF (f : Nat → Option Nat) (k m : Nat) : Nat → Option Nat := va_up (va_cpy f f (k + 1) k (m - 1 - k)) (m - 1) none
section
variable {d a e m k : Nat} {G : Hp}
set_option maxHeartbeats 4000000
set_option maxRecDepth 20000
theorem s_chkIx (hk : k < m) (hm : m ≤ 1000000) : XP PP (d + 1) 485 0 [.int (nI k), .int (nI m)] [] G = some (.inl (some (.int (nI k))), G) := by
  have e0 : ¬ nI k < 0 := Int32.not_lt.mpr (by rw [show (0 : Int32) = nI 0 from rfl, nI_leI (by omega) (by omega)]; omega)
  have e1 : nI k < nI m := by rw [nI_ltI (by omega) (by omega)]; omega
  simp [x485_0, x485_1, x485_2, x485_3, x485_6, x481_0, x481_1, x481_4, x481_5, x481_6, x481_9, x481_10, x481_11, x481_15, x481_16, x481_17, rf_ref, rf_va, rf_null, c1_int, c1_ref, c1_UV, rvo_n, rvo_r, c1_null, c1_va, up_s, up_o, va_rf_some, va_rf_none, litA, litB, litM, nI_add, okZ_0, okZ_1, okZ_zb, zb_0, gB_add, inb_lit, cl_lit, Nat.lt_irrefl, ↓reduceIte, if_true, if_false, RP_v, RP_n, e0, e1]
theorem s_alSize (h : AL G a e m) : XP PP d 320 0 [.ref a] [] G = some (.inl (some (.int (nI m))), G) := by
  obtain ⟨h1, h2, h3, h4, h5, h6⟩ := h
  simp [x320_0, x320_1, x320_4, rf_ref, rf_va, rf_null, c1_int, c1_ref, c1_UV, rvo_n, rvo_r, c1_null, c1_va, up_s, up_o, va_rf_some, va_rf_none, litA, litB, litM, nI_add, okZ_0, okZ_1, okZ_zb, zb_0, gB_add, inb_lit, cl_lit, Nat.lt_irrefl, ↓reduceIte, if_true, if_false, RP_v, RP_n, h1, h3]
theorem s_alElem (h : AL G a e m) (hk : k < gN G e) (hk2 : k < 2 ^ 31) (hN : gN G e < 2 ^ 31) : XP PP d 326 0 [.ref a, .int (nI k)] [] G = some (.inl (some (va_rf (gR G e k))), G) := by
  obtain ⟨h1, h2, h3, h4, h5, h6⟩ := h
  have i1 : inb (nI k) (gN G e) = true := inb_nI hk hN
  have i2 : (nI k).toNatClampNeg = k := nI_clamp hk2
  simp [x326_0, x326_1, x326_4, x326_5, x326_6, rf_ref, rf_va, rf_null, c1_int, c1_ref, c1_UV, rvo_n, rvo_r, c1_null, c1_va, up_s, up_o, va_rf_some, va_rf_none, litA, litB, litM, nI_add, okZ_0, okZ_1, okZ_zb, zb_0, gB_add, inb_lit, cl_lit, Nat.lt_irrefl, ↓reduceIte, if_true, if_false, RP_v, RP_n, h1, h2, h4, i1, i2]
theorem s_alGet (h : AL G a e m) (hk : k < m) (hN : gN G e < 2 ^ 31) : XP PP (d + 2) 325 0 [.ref a, .int (nI k)] [] G = some (.inl (some (va_rf (gR G e k))), G) := by
  have h' := h
  obtain ⟨h1, h2, h3, h4, h5, h6⟩ := h
  have s1 := fun d => s_chkIx (d := d) (G := G) hk h6
  have s2 := fun d => s_alElem (d := d) h' (show k < gN G e by omega) (by omega) hN
  simp [x325_0, x325_1, x325_2, x325_5, x325_8, x325_9, x325_10, x325_11, x325_14, rf_ref, rf_va, rf_null, c1_int, c1_ref, c1_UV, rvo_n, rvo_r, c1_null, c1_va, up_s, up_o, va_rf_some, va_rf_none, litA, litB, litM, nI_add, okZ_0, okZ_1, okZ_zb, zb_0, gB_add, inb_lit, cl_lit, Nat.lt_irrefl, ↓reduceIte, if_true, if_false, RP_v, RP_n, h1, h3, s1, s2]
theorem sI_sRr {x k : Nat} {v : Int32} {f : Nat → Option Nat} : sI (sRr G e f) x k v = sRr (sI G x k v) e f := id rfl
theorem va_cpy_0 {α : Type} {f g : Nat → α} {sp dp : Nat} : va_cpy f g sp dp 0 = g := by funext j; exact if_neg (by omega)
theorem s_alFast (h : AL G a e m) (hk : k < m) (hN : gN G e < 2 ^ 31) (hb : gB G ≤ a) (hbe : gB G ≤ e) (hq : ∀ j, j < m → ∃ q, gR G e j = some q ∧ okA 110 (gT G q) = true) :
    XP PP d 328 0 [.ref a, .ref e, .int (nI k), UV] [] (G) = some (.inl (none), sRr (sI (sI G a 0 (gI G a 0 + 1)) a 2 (nI (m - 1))) e (rmF (gR G e) k m)) := by
  obtain ⟨h1, h2, h3, h4, h5, h6⟩ := h
  have hae : ¬ a = e := fun z => by rw [z, h4] at h1; exact absurd h1 (by decide)
  have s1 : nI m - 1 = nI (m - 1) := nI_sub (b := 1) (by omega)
  have i1 : inb (nI (m - 1)) (gN G e) = true := inb_nI (by omega) hN
  have i2 : (nI (m - 1)).toNatClampNeg = m - 1 := nI_clamp (by omega)
  by_cases q : k = m - 1
  · have e1 : nI (m - 1) ≤ nI k := by rw [q, nI_leI (by omega) (by omega)]; exact Nat.le_refl _
    have e2 : va_cpy (gR G e) (gR G e) (k + 1) k (m - 1 - k) = gR G e := by rw [show m - 1 - k = 0 by omega, va_cpy_0]
    unfold rmF
    rw [e2]
    simp [x328_0, x328_1, x328_2, x328_5, x328_6, x328_7, x328_10, x328_11, x328_14, x328_15, x328_16, x328_17, x328_18, x328_19, x328_22, x328_23, x328_24, x328_25, x328_26, x328_27, x328_28, x328_29, x328_30, x328_31, x328_31b, x328_31r, x328_34, x328_35, x328_36, x328_37, x328_38, x328_41, x328_42, x328_42n, x328_43, rf_ref, rf_va, rf_null, c1_int, c1_ref, c1_UV, rvo_n, rvo_r, c1_null, c1_va, up_s, up_o, va_rf_some, va_rf_none, litA, litB, litM, nI_add, okZ_0, okZ_1, okZ_zb, zb_0, gB_add, inb_lit, cl_lit, Nat.lt_irrefl, ↓reduceIte, if_true, if_false, RP_v, RP_n, nv_A, nv_B, nv_S, nv_X, sI_A, sI_B, sI_J, sI_N, sI_R, sI_S, sI_T, sI_X, sIr_A, sIr_B, sIr_J, sIr_N, sIr_R, sIr_S, sIr_T, sIr_X, sJ_A, sJ_B, sJ_I, sJ_N, sJ_R, sJ_S, sJ_T, sJ_X, sR_A, sR_B, sR_I, sR_J, sR_N, sR_S, sR_T, sR_X, sRr_A, sRr_B, sRr_I, sRr_J, sRr_N, sRr_S, sRr_T, sRr_X, h1, h2, h3, h4, hb, hbe, s1, i1, i2, e1, sI_Ik, sR_Rr]
    rfl
  · have e1 : ¬ nI (m - 1) ≤ nI k := by rw [nI_leI (by omega) (by omega)]; omega
    have s2 : nI (m - 1) - nI k = nI (m - 1 - k) := nI_sub (by omega)
    have j1 : (nI (m - 1 - k)).toNatClampNeg = m - 1 - k := nI_clamp (by omega)
    have j2 : (nI (k + 1)).toNatClampNeg = k + 1 := nI_clamp (by omega)
    have j3 : (nI k).toNatClampNeg = k := nI_clamp (by omega)
    have n0 : ∀ x, x < 2 ^ 31 → ¬ nI x < 0 := fun x hx => Int32.not_lt.mpr (by rw [show (0 : Int32) = nI 0 from rfl, nI_leI (by omega) hx]; omega)
    have hc : cpOK (sI G a 0 (gI G a 0 + 1)) e e (nI (k + 1)) (nI k) (nI (m - 1 - k)) = true := by
      unfold cpOK
      simp only [sI_N, sI_T, sI_B, j1, j2, j3]
      simp [n0 (m - 1 - k) (by omega), n0 k (by omega), n0 (k + 1) (by omega), hbe]
      omega
    have hr : rAll okA (sI G a 0 (gI G a 0 + 1)) e e (k + 1) (m - 1 - k) = true := by
      unfold rAll
      simp only [sI_T, sI_R]
      rw [List.all_eq_true]
      intro i hi
      rw [List.mem_range] at hi
      obtain ⟨x, hx, ho⟩ := hq (k + 1 + i) (by omega)
      rw [hx, h4]
      exact ho
    unfold rmF
    simp [x328_0, x328_1, x328_2, x328_5, x328_6, x328_7, x328_10, x328_11, x328_14, x328_15, x328_16, x328_17, x328_18, x328_19, x328_22, x328_23, x328_24, x328_25, x328_26, x328_27, x328_28, x328_29, x328_30, x328_31, x328_31b, x328_31r, x328_34, x328_35, x328_36, x328_37, x328_38, x328_41, x328_42, x328_42n, x328_43, rf_ref, rf_va, rf_null, c1_int, c1_ref, c1_UV, rvo_n, rvo_r, c1_null, c1_va, up_s, up_o, va_rf_some, va_rf_none, litA, litB, litM, nI_add, okZ_0, okZ_1, okZ_zb, zb_0, gB_add, inb_lit, cl_lit, Nat.lt_irrefl, ↓reduceIte, if_true, if_false, RP_v, RP_n, nv_A, nv_B, nv_S, nv_X, sI_A, sI_B, sI_J, sI_N, sI_R, sI_S, sI_T, sI_X, sIr_A, sIr_B, sIr_J, sIr_N, sIr_R, sIr_S, sIr_T, sIr_X, sJ_A, sJ_B, sJ_I, sJ_N, sJ_R, sJ_S, sJ_T, sJ_X, sR_A, sR_B, sR_I, sR_J, sR_N, sR_S, sR_T, sR_X, sRr_A, sRr_B, sRr_I, sRr_J, sRr_N, sRr_S, sRr_T, sRr_X, h1, h2, h3, h4, hb, hbe, s1, s2, i1, i2, e1, j1, j2, j3, hc, hr, sI_Ik]
    rw [sI_sRr, sR_sRr]
    rfl
theorem s_alRemove (h : AL G a e m) (hk : k < m) (hN : gN G e < 2 ^ 31) (hb : gB G ≤ a) (hbe : gB G ≤ e) (hq : ∀ j, j < m → ∃ q, gR G e j = some q ∧ okA 110 (gT G q) = true) :
    XP PP (d + 2) 327 0 [.ref a, .int (nI k), UV, UV] [] (G) = some (.inl (some (va_rf (gR G e k))), sRr (sI (sI G a 0 (gI G a 0 + 1)) a 2 (nI (m - 1))) e (rmF (gR G e) k m)) := by
  have h' := h
  obtain ⟨h1, h2, h3, h4, h5, h6⟩ := h
  have s1 := fun d => s_chkIx (d := d) (G := G) hk h6
  have s2 := fun d => s_alFast (d := d) h' hk hN hb hbe hq
  have i1 : inb (nI k) (gN G e) = true := inb_nI (by omega) hN
  have i2 : (nI k).toNatClampNeg = k := nI_clamp (by omega)
  simp [x327_0, x327_1, x327_2, x327_5, x327_8, x327_9, x327_10, x327_13, x327_14, x327_15, x327_16, x327_17, x327_18, x327_19, x327_20, x327_21, x327_24, x327_25, rf_ref, rf_va, rf_null, c1_int, c1_ref, c1_UV, rvo_n, rvo_r, c1_null, c1_va, up_s, up_o, va_rf_some, va_rf_none, litA, litB, litM, nI_add, okZ_0, okZ_1, okZ_zb, zb_0, gB_add, inb_lit, cl_lit, Nat.lt_irrefl, ↓reduceIte, if_true, if_false, RP_v, RP_n, h1, h2, h3, h4, s1, s2, i1, i2]
end

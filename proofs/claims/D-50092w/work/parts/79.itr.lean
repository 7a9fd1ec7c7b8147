/-! the JDK: a list's iterator, in a new cell -/
def iwF (mc : Int32) (k : Nat) (l : Int32) : Rw := fun j => if j = 0 then nI k else if j = 1 then l else if j = 2 then mc else 0
def iw (G : Hp) (a k : Nat) (l : Int32) : Hp := sIr (sR (nw G 21 4) (gX G) 3 (some a)) (gX G) (iwF (gI G a 0) k l)
section
variable {d a e m n k q : Nat} {l l' : Int32} {G : Hp}
theorem iw_T : gT (iw G a k l) (gX G) = 21 := nv_Ts (n := 4)
theorem iw_Ty {y : Nat} (h : ¬ y = gX G) : gT (iw G a k l) y = gT G y := nv_T (t := 21) (n := 4) h
theorem iw_Ny {y : Nat} (h : ¬ y = gX G) : gN (iw G a k l) y = gN G y := nv_N (t := 21) (n := 4) h
theorem iw_R3 : gR (iw G a k l) (gX G) 3 = some a := sR_Rs
theorem iw_Ry {y j : Nat} (h : ¬ y = gX G) : gR (iw G a k l) y j = gR G y j := (sR_Ra h).trans (nv_R (t := 21) (n := 4) h)
theorem iw_I {j : Nat} : gI (iw G a k l) (gX G) j = iwF (gI G a 0) k l j := sIr_s
theorem iw_I0 : gI (iw G a k l) (gX G) 0 = nI k := iw_I
theorem iw_I2 : gI (iw G a k l) (gX G) 2 = gI G a 0 := iw_I
theorem iw_Iy {y j : Nat} (h : ¬ y = gX G) : gI (iw G a k l) y j = gI G y j := (sIr_o h).trans (nv_I (t := 21) (n := 4) h)
theorem iw_B : gB (iw G a k l) = gB G := id rfl
theorem iw_A {i : Nat} : gA (iw G a k l) i = gA G i := id rfl
theorem iw_0 {x : Nat} : sI (iw G a k l) (gX G) 0 (nI x) = iw G a x l := by
  unfold iw
  rw [sI_sIr]
  congr 1
  funext j
  unfold va_up iwF
  by_cases h : j = 0
  · rw [if_pos h, if_pos h]
  · rw [if_neg h, if_neg h, if_neg h]
theorem iw_1 : sI (iw G a k l) (gX G) 1 l' = iw G a k l' := by
  unfold iw
  rw [sI_sIr]
  congr 1
  funext j
  unfold va_up iwF
  by_cases h : j = 1
  · subst h; rfl
  · rw [if_neg h, if_neg h, if_neg h]
theorem iw_mk : sI (sI (sR (nw G 21 4) (gX G) 3 (some a)) (gX G) 1 (-1)) (gX G) 2 (gI G a 0) = iw G a 0 (-1) := by
  unfold iw
  rw [sI_Ir (k := 1), sI_sIr]
  congr 1
  funext j
  unfold va_up iwF
  have h0 : gI (sR (nw G 21 4) (gX G) 3 (some a)) (gX G) j = 0 := nv_Is (t := 21) (n := 4)
  by_cases h2 : j = 2
  · subst h2; rfl
  · rw [if_neg h2]
    by_cases h1 : j = 1
    · subst h1; rfl
    · rw [if_neg h1, h0, if_neg h1, if_neg h2]
      by_cases h : j = 0
      · rw [if_pos h]; rfl
      · rw [if_neg h]
theorem Fr_iw : Fr (fun _ => False) 1 4 G (iw G a k l) := ((Fr_nw.trans Fr_sR).trans Fr_sIr).mono (fun x hx z => by
  rcases z with (z | z) | z
  · exact z
  · omega
  · omega) (by omega) (by omega)
theorem AL.iw (h : AL G a e m) (ha : a < gX G) (he : e < gX G) : AL (iw G a k l) a e m := by
  obtain ⟨h1, h2, h3, h4, h5, h6⟩ := h
  exact ⟨(iw_Ty (by omega)).trans h1, (iw_Ry (by omega)).trans h2, (iw_Iy (by omega)).trans h3, (iw_Ty (by omega)).trans h4, by rw [iw_Ny (by omega)]; exact h5, h6⟩
set_option maxHeartbeats 4000000
set_option maxRecDepth 20000
theorem s_iterator (h : AL G a e m) (ha : a < gX G) (hb : gB G ≤ gX G) : XP PP (d + 1) 329 0 [.ref a] [] (G) = some (.inl (some (.ref (gX G))), iw G a 0 (-1)) := by
  have hne : ¬ a = gX G := by omega
  have e2 := iw_mk (G := G) (a := a)
  have e3 : gI (sI (sR (nw G 21 4) (gX G) 3 (some a)) (gX G) 1 (-1)) a 0 = gI G a 0 := (sI_Ia hne).trans (nv_I (t := 21) (n := 4) hne)
  rw [← e3] at e2
  simp [x329_0, x329_3, x329_4, x329_5, x329_8, x532_0, x532_1, x532_2, x532_5, x532_6, x532_9, x532_10, x532_11, x532_14, x532_15, x532_16, x532_19, x532_22, x532_25, rf_ref, rf_va, rf_null, c1_int, c1_ref, c1_UV, rvo_n, rvo_r, c1_null, c1_va, up_s, up_o, va_rf_some, va_rf_none, litA, litB, litM, nI_add, okZ_0, okZ_1, okZ_zb, zb_0, gB_add, inb_lit, cl_lit, Nat.lt_irrefl, ↓reduceIte, if_true, if_false, RP_v, RP_n, nv_A, nv_B, nv_S, nv_X, sI_A, sI_B, sI_J, sI_N, sI_R, sI_S, sI_T, sI_X, sIr_A, sIr_B, sIr_J, sIr_N, sIr_R, sIr_S, sIr_T, sIr_X, sJ_A, sJ_B, sJ_I, sJ_N, sJ_R, sJ_S, sJ_T, sJ_X, sR_A, sR_B, sR_I, sR_J, sR_N, sR_S, sR_T, sR_X, sRr_A, sRr_B, sRr_I, sRr_J, sRr_N, sRr_S, sRr_T, sRr_X, nv_Ts, nv_T hne, nv_I hne, sR_Rs, hb, h.1]
  exact e2
theorem s_hasNext (h : AL G a e m) (ha : a < gX G) (hk : k ≤ m) : XP PP d 533 0 [.ref (gX G)] [] (iw G a k l) = some (.inl (some (.int (zb (decide (k < m))))), iw G a k l) := by
  have hne : ¬ a = gX G := by omega
  have h6 := h.2.2.2.2.2
  by_cases q : k = m
  · subst q
    simp [x533_0, x533_1, x533_4, x533_5, x533_8, x533_11, x533_14, x533_15, x533_18, x533_19, rf_ref, rf_va, rf_null, c1_int, c1_ref, c1_UV, rvo_n, rvo_r, c1_null, c1_va, up_s, up_o, va_rf_some, va_rf_none, litA, litB, litM, nI_add, okZ_0, okZ_1, okZ_zb, zb_0, gB_add, inb_lit, cl_lit, Nat.lt_irrefl, ↓reduceIte, if_true, if_false, RP_v, RP_n, iw_T, iw_R3, iw_I0, iw_Ty hne, iw_Iy hne, h.1, h.2.2.1, zb]
  · have e1 : ¬ nI k = nI m := fun z => q ((nI_eq (by omega) (by omega)).mp z)
    have e2 : k < m := by omega
    simp [x533_0, x533_1, x533_4, x533_5, x533_8, x533_11, x533_14, x533_15, x533_18, x533_19, rf_ref, rf_va, rf_null, c1_int, c1_ref, c1_UV, rvo_n, rvo_r, c1_null, c1_va, up_s, up_o, va_rf_some, va_rf_none, litA, litB, litM, nI_add, okZ_0, okZ_1, okZ_zb, zb_0, gB_add, inb_lit, cl_lit, Nat.lt_irrefl, ↓reduceIte, if_true, if_false, RP_v, RP_n, iw_T, iw_R3, iw_I0, iw_Ty hne, iw_Iy hne, h.1, h.2.2.1, zb, e1, e2]
theorem s_next (h : AL G a e m) (ha : a < gX G) (he : e < gX G) (hb : gB G ≤ gX G) (hk : k < m) (hN : gN G e < 2 ^ 31) : XP PP (d + 1) 534 0 [.ref (gX G), UV, UV] [] (iw G a k l) = some (.inl (some (va_rf (gR G e k))), iw G a (k + 1) (nI k)) := by
  have hne : ¬ a = gX G := by omega
  have hne2 : ¬ e = gX G := by omega
  obtain ⟨h1, h2, h3, h4, h5, h6⟩ := h
  have e1 : nI k < nI m := by rw [nI_ltI (by omega) (by omega)]; exact hk
  have e2 : nI k < nI (gN G e) := by rw [nI_ltI (by omega) (by omega)]; omega
  have i1 : inb (nI k) (gN G e) = true := inb_nI (by omega) hN
  have i2 : (nI k).toNatClampNeg = k := nI_clamp (by omega)
  simp [x534_0, x534_1, x534_4, x534_5, x534_8, x534_9, x534_10, x534_11, x534_14, x534_17, x534_20, x534_23, x534_27, x534_28, x534_29, x534_32, x534_35, x534_36, x534_37, x534_38, x534_39, x534_45, x534_49, x534_50, x534_51, x534_52, x534_53, x534_54, x534_57, x534_58, x534_59, x534_60, x534_61, x534_64, x534_65, x535_0, x535_1, x535_4, x535_7, x535_8, x535_11, x535_17, x535_21, x535_22, rf_ref, rf_va, rf_null, c1_int, c1_ref, c1_UV, rvo_n, rvo_r, c1_null, c1_va, up_s, up_o, va_rf_some, va_rf_none, litA, litB, litM, nI_add, okZ_0, okZ_1, okZ_zb, zb_0, gB_add, inb_lit, cl_lit, Nat.lt_irrefl, ↓reduceIte, if_true, if_false, RP_v, RP_n, iw_T, iw_R3, iw_I0, iw_I2, iw_B, iw_Ty hne, iw_Iy hne, iw_Ry hne, iw_Ty hne2, iw_Ny hne2, iw_Ry hne2, h1, h2, h3, h4, hb, e1, e2, i1, i2, nI_1, iw_0, iw_1]
end

/-! the twin: pairs apart, the middle -/
/-- pairs p < q < K with b p q, those with p < P -/
def prS (b : Nat → Nat → Bool) (K : Nat) : Nat → Nat
  | 0 => 0
  | P + 1 => prS b K P + cnt (fun j => b P (P + 1 + j)) (K - 1 - P)
section
variable {d o : Nat} {G : Hp} {u : Mu}
set_option maxHeartbeats 4000000
set_option maxRecDepth 20000
theorem prS_le (b : Nat → Nat → Bool) (K : Nat) : ∀ P, prS b K P ≤ P * K := by
  intro P
  induction P with
  | zero => exact Nat.zero_le _
  | succ P ih =>
    rw [prS]
    have := cnt_le (fun j => b P (P + 1 + j)) (K - 1 - P)
    rw [Nat.succ_mul]
    omega
def paB (r f : Rw) (a p q : Nat) : Bool := decide (plc (bal r a) (f q) < plc (bal r a) (f p))
theorem s_pairsApart {a K A : Nat} (hV : VW (u.1 0) (u.1 4) K A) (ha : a < A) (hf : ∀ p, p < K → ∃ k, k < K ∧ u.1 10 p = nI k) : XP PP (d + 2) 231 0 [.ref o, .int (nI a), UV, UV, UV] [] (mst G o u) = some (.inl (some (.int (nI (prS (paB (u.1 4) (u.1 10) a) K K)))), mst G o u) := by
  obtain ⟨h1, hK, h2, hA, h5⟩ := hV
  have hon : ∀ p, p < K → ∃ q, q < 5 ∧ bal (u.1 4) a q = u.1 10 p := fun p hp => by
    obtain ⟨k, hk, e⟩ := hf p hp
    obtain ⟨q, hq, e2⟩ := h5 a ha k hk
    exact ⟨q, hq, by rw [e2, e]⟩
  have hin : ∀ p, p < K → ∀ n0, XP PP (d + 2) 231 17 [.ref o, .int (nI a), .int (nI n0), .int (nI p), .int (nI (p + 1))] [] (mst G o u) = XP PP (d + 2) 231 4 [.ref o, .int (nI a), .int (nI (n0 + cnt (fun j => paB (u.1 4) (u.1 10) a p (p + 1 + j)) (K - 1 - p))), .int (nI (p + 1)), .int (nI K)] [] (mst G o u) := by
    intro p hp n0
    refine XP_for (K - 1 - p) (fun j => [.ref o, .int (nI a), .int (nI (n0 + cnt (fun j => paB (u.1 4) (u.1 10) a p (p + 1 + j)) j)), .int (nI p), .int (nI (p + 1 + j))]) (fun _ => mst G o u) ?_ ?_ 0 (Nat.zero_le _)
    · intro j hj
      have e1 : ¬ nI K ≤ nI (p + 1 + j) := nI_ge (by omega) (by omega)
      have i1 : inb (nI p) 5 = true := inb_nI (by omega) (by omega)
      have i2 : (nI p).toNatClampNeg = p := nI_clamp (by omega)
      have i3 : inb (nI (p + 1 + j)) 5 = true := inb_nI (by omega) (by omega)
      have i4 : (nI (p + 1 + j)).toNatClampNeg = p + 1 + j := nI_clamp (by omega)
      have s1 := fun d => s_placeOf (d := d) (G := G) (o := o) (u := u) (a := a) (k := u.1 10 p) (by omega) (hon p hp)
      have s2 := fun d => s_placeOf (d := d) (G := G) (o := o) (u := u) (a := a) (k := u.1 10 (p + 1 + j)) (by omega) (hon _ (by omega))
      have z1 := (plc_spec (hon p hp)).1
      have z2 := (plc_spec (hon (p + 1 + j) (by omega))).1
      have e5 : (nI (plc (bal (u.1 4) a) (u.1 10 p)) ≤ nI (plc (bal (u.1 4) a) (u.1 10 (p + 1 + j)))) = _ := nI_leN (by omega) (by omega)
      refine Eq.trans (by first | exact x231_17 | exact x231_17 (rf_ref _) | exact x231_17 rfl) ?_
      by_cases q : plc (bal (u.1 4) a) (u.1 10 (p + 1 + j)) < plc (bal (u.1 4) a) (u.1 10 p)
      · simp [x231_0, x231_1, x231_2, x231_3, x231_5, x231_6, x231_9, x231_12, x231_13, x231_14, x231_15, x231_19, x231_20, x231_23, x231_26, x231_27, x231_28, x231_29, x231_32, x231_33, x231_34, x231_37, x231_38, x231_39, x231_40, x231_43, x231_45, x231_46, x231_49, x231_52, x231_53, x231_54, x231_55, x231_56, x231_59, x231_62, x231_65, x231_68, x231_69, rf_ref, c1_int, c1_ref, c1_UV, mst_T0, mst_I0, mst_R0, mst_J0, mst_T, mst_N, mst_I, mst_J, mst_B, mst_sI, mst_sI0, mst_sJ, mst_sJ0, uR_s, uR_o, uR_2, uR_uR, uL_s, uL_o, uL_1, up_s, up_o, mT, mN, mR, va_rf_some, litA, litB, litM, nI_add, okZ_0, okZ_1, okZ_zb, zb_0, gB_add, inb_lit, cl_lit, Nat.lt_irrefl, ↓reduceIte, if_true, if_false, RP_v, RP_n, h1, e1, i1, i2, i3, i4, s1, s2, e5, q, Nat.not_le.mpr q, cnt, paB, nI_1]
        rfl
      · simp [x231_0, x231_1, x231_2, x231_3, x231_5, x231_6, x231_9, x231_12, x231_13, x231_14, x231_15, x231_19, x231_20, x231_23, x231_26, x231_27, x231_28, x231_29, x231_32, x231_33, x231_34, x231_37, x231_38, x231_39, x231_40, x231_43, x231_45, x231_46, x231_49, x231_52, x231_53, x231_54, x231_55, x231_56, x231_59, x231_62, x231_65, x231_68, x231_69, rf_ref, c1_int, c1_ref, c1_UV, mst_T0, mst_I0, mst_R0, mst_J0, mst_T, mst_N, mst_I, mst_J, mst_B, mst_sI, mst_sI0, mst_sJ, mst_sJ0, uR_s, uR_o, uR_2, uR_uR, uL_s, uL_o, uL_1, up_s, up_o, mT, mN, mR, va_rf_some, litA, litB, litM, nI_add, okZ_0, okZ_1, okZ_zb, zb_0, gB_add, inb_lit, cl_lit, Nat.lt_irrefl, ↓reduceIte, if_true, if_false, RP_v, RP_n, h1, e1, i1, i2, i3, i4, s1, s2, e5, q, Nat.not_lt.mp q, cnt, paB, nI_1]
        rfl
    · have e1 : nI K ≤ nI (p + 1 + (K - 1 - p)) := nI_le (by omega) (by omega)
      have e2 : p + 1 + (K - 1 - p) = K := by omega
      refine Eq.trans (by first | exact x231_17 | exact x231_17 (rf_ref _) | exact x231_17 rfl) ?_
      simp [x231_0, x231_1, x231_2, x231_3, x231_5, x231_6, x231_9, x231_12, x231_13, x231_14, x231_15, x231_19, x231_20, x231_23, x231_26, x231_27, x231_28, x231_29, x231_32, x231_33, x231_34, x231_37, x231_38, x231_39, x231_40, x231_43, x231_45, x231_46, x231_49, x231_52, x231_53, x231_54, x231_55, x231_56, x231_59, x231_62, x231_65, x231_68, x231_69, rf_ref, c1_int, c1_ref, c1_UV, mst_T0, mst_I0, mst_R0, mst_J0, mst_T, mst_N, mst_I, mst_J, mst_B, mst_sI, mst_sI0, mst_sJ, mst_sJ0, uR_s, uR_o, uR_2, uR_uR, uL_s, uL_o, uL_1, up_s, up_o, mT, mN, mR, va_rf_some, litA, litB, litM, nI_add, okZ_0, okZ_1, okZ_zb, zb_0, gB_add, inb_lit, cl_lit, Nat.lt_irrefl, ↓reduceIte, if_true, if_false, RP_v, RP_n, h1, e2, nI_1]
  have hl : XP PP (d + 2) 231 4 [.ref o, .int (nI a), .int 0, .int 0, UV] [] (mst G o u) = some (.inl (some (.int (nI (prS (paB (u.1 4) (u.1 10) a) K K)))), mst G o u) := by
    refine XP_forX K (fun _ : Value => True) (fun p e => [.ref o, .int (nI a), .int (nI (prS (paB (u.1 4) (u.1 10) a) K p)), .int (nI p), e]) (fun _ => mst G o u) ?_ ?_ 0 (Nat.zero_le _) UV trivial
    · intro p hp e _
      have e1 : ¬ nI K ≤ nI p := nI_ge hp (by omega)
      refine ⟨.int (nI K), trivial, ?_⟩
      refine Eq.trans (by first | exact x231_4 | exact x231_4 (rf_ref _) | exact x231_4 rfl) ?_
      simp [x231_0, x231_1, x231_2, x231_3, x231_5, x231_6, x231_9, x231_12, x231_13, x231_14, x231_15, x231_19, x231_20, x231_23, x231_26, x231_27, x231_28, x231_29, x231_32, x231_33, x231_34, x231_37, x231_38, x231_39, x231_40, x231_43, x231_45, x231_46, x231_49, x231_52, x231_53, x231_54, x231_55, x231_56, x231_59, x231_62, x231_65, x231_68, x231_69, rf_ref, c1_int, c1_ref, c1_UV, mst_T0, mst_I0, mst_R0, mst_J0, mst_T, mst_N, mst_I, mst_J, mst_B, mst_sI, mst_sI0, mst_sJ, mst_sJ0, uR_s, uR_o, uR_2, uR_uR, uL_s, uL_o, uL_1, up_s, up_o, mT, mN, mR, va_rf_some, litA, litB, litM, nI_add, okZ_0, okZ_1, okZ_zb, zb_0, gB_add, inb_lit, cl_lit, Nat.lt_irrefl, ↓reduceIte, if_true, if_false, RP_v, RP_n, h1, e1, nI_1, hin p hp, prS]
    · intro e _
      refine Eq.trans (by first | exact x231_4 | exact x231_4 (rf_ref _) | exact x231_4 rfl) ?_
      simp [x231_0, x231_1, x231_2, x231_3, x231_5, x231_6, x231_9, x231_12, x231_13, x231_14, x231_15, x231_19, x231_20, x231_23, x231_26, x231_27, x231_28, x231_29, x231_32, x231_33, x231_34, x231_37, x231_38, x231_39, x231_40, x231_43, x231_45, x231_46, x231_49, x231_52, x231_53, x231_54, x231_55, x231_56, x231_59, x231_62, x231_65, x231_68, x231_69, rf_ref, c1_int, c1_ref, c1_UV, mst_T0, mst_I0, mst_R0, mst_J0, mst_T, mst_N, mst_I, mst_J, mst_B, mst_sI, mst_sI0, mst_sJ, mst_sJ0, uR_s, uR_o, uR_2, uR_uR, uL_s, uL_o, uL_1, up_s, up_o, mT, mN, mR, va_rf_some, litA, litB, litM, nI_add, okZ_0, okZ_1, okZ_zb, zb_0, gB_add, inb_lit, cl_lit, Nat.lt_irrefl, ↓reduceIte, if_true, if_false, RP_v, RP_n, h1]
  simp [x231_0, x231_1, x231_2, x231_3, rf_ref, c1_int, c1_ref, c1_UV, mst_T0, mst_I0, mst_R0, mst_J0, mst_T, mst_N, mst_I, mst_J, mst_B, mst_sI, mst_sI0, mst_sJ, mst_sJ0, uR_s, uR_o, uR_2, uR_uR, uL_s, uL_o, uL_1, up_s, up_o, mT, mN, mR, va_rf_some, litA, litB, litM, nI_add, okZ_0, okZ_1, okZ_zb, zb_0, gB_add, inb_lit, cl_lit, Nat.lt_irrefl, ↓reduceIte, if_true, if_false, RP_v, RP_n, hl]
/-- distance -/
theorem s_distance0 {a : Int32} (hb : gB G ≤ o) (h : irB a 0 (u.1 0 2 - 1) = false) : XP PP (d + 3) 230 0 [.ref o, .int a, UV] [] (mst G o u) = some (.inl (some (.int 0)), mst G o (uT u 1)) := by
  simp [x230_0, x230_1, x230_2, x230_3, x230_6, x230_9, x230_12, x230_13, x230_14, x230_15, x230_16, x230_17, x230_18, x230_21, x230_24, x230_25, x230_28, x230_29, x230_30, x230_33, x230_35, x230_36, x230_37, x230_38, x230_39, x230_42, x230_45, x230_46, x230_47, x230_50, rf_ref, c1_int, c1_ref, c1_UV, mst_T0, mst_I0, mst_R0, mst_J0, mst_T, mst_N, mst_I, mst_J, mst_B, mst_sI, mst_sI0, mst_sJ, mst_sJ0, uR_s, uR_o, uR_2, uR_uR, uL_s, uL_o, uL_1, up_s, up_o, mT, mN, mR, va_rf_some, litA, litB, litM, nI_add, okZ_0, okZ_1, okZ_zb, zb_0, gB_add, inb_lit, cl_lit, Nat.lt_irrefl, ↓reduceIte, if_true, if_false, RP_v, RP_n, s_is1, s_is0, s_may1, s_may0, uT_0, uT_o, uT_2, uT_T, s_isAsker', s_isClass', s_isIn9, s_isIn5, s_isIn4, s_isIn59, s_isIn3, s_isIn20, s_isTally', s_areTicks', h, zb_true, zb_false, hb]
theorem s_distance {a K A : Nat} (hb : gB G ≤ o) (hV : VW (u.1 0) (u.1 4) K A) (h1A : 1 ≤ A) (ha : a < A) (ho : Ro (u.1 4) K) : ∃ T, XP PP (d + 3) 230 0 [.ref o, .int (nI a), UV] [] (mst G o u) = some (.inl (some (.int (nI (prS (paB (u.1 4) (ordR (u.1 4)) a) K K)))), mst G o (uR (uT u 0) 10 T)) := by
  have hV' := hV
  obtain ⟨h1, hK, h2, hA, h5⟩ := hV
  have q : irB (nI a) 0 (u.1 0 2 - 1) = true := by rw [h2, irB_inb h1A (by omega)]; exact inb_nI ha (by omega)
  obtain ⟨T, hT⟩ : ∃ T, T = va_cpy (ordR (u.1 4)) (u.1 10) 0 0 K := ⟨_, rfl⟩
  have hl : XP PP (d + 3) 230 16 [.ref o, .int (nI a), .int 0] [] (mst G o (uR (uT u 0) 10 (va_cpy (ordR (u.1 4)) (u.1 10) 0 0 0))) = XP PP (d + 3) 230 45 [.ref o, .int (nI a), .int (nI K)] [] (mst G o (uR (uT u 0) 10 (va_cpy (ordR (u.1 4)) (u.1 10) 0 0 K))) := by
    refine XP_for K (fun p => [.ref o, .int (nI a), .int (nI p)]) (fun p => mst G o (uR (uT u 0) 10 (va_cpy (ordR (u.1 4)) (u.1 10) 0 0 p))) ?_ ?_ 0 (Nat.zero_le _)
    · intro p hp
      have e1 : ¬ nI K ≤ nI p := nI_ge hp (by omega)
      have i1 : inb (nI p) 5 = true := inb_nI (by omega) (by omega)
      have i2 : (nI p).toNatClampNeg = p := nI_clamp (by omega)
      have i3 : inb (nI (10 + p)) 718 = true := inb_nI (by omega) (by omega)
      have i4 : (nI (10 + p)).toNatClampNeg = 10 + p := nI_clamp (by omega)
      have cs := cpy_k (ordR (u.1 4)) (u.1 10) p
      unfold ordR at cs ⊢
      refine Eq.trans (by first | exact x230_16 | exact x230_16 (rf_ref _) | exact x230_16 rfl) ?_
      simp [x230_0, x230_1, x230_2, x230_3, x230_6, x230_9, x230_12, x230_13, x230_14, x230_15, x230_17, x230_18, x230_21, x230_24, x230_25, x230_28, x230_29, x230_30, x230_33, x230_35, x230_36, x230_37, x230_38, x230_39, x230_42, x230_45, x230_46, x230_47, x230_50, rf_ref, c1_int, c1_ref, c1_UV, mst_T0, mst_I0, mst_R0, mst_J0, mst_T, mst_N, mst_I, mst_J, mst_B, mst_sI, mst_sI0, mst_sJ, mst_sJ0, uR_s, uR_o, uR_2, uR_uR, uL_s, uL_o, uL_1, up_s, up_o, mT, mN, mR, va_rf_some, litA, litB, litM, nI_add, okZ_0, okZ_1, okZ_zb, zb_0, gB_add, inb_lit, cl_lit, Nat.lt_irrefl, ↓reduceIte, if_true, if_false, RP_v, RP_n, s_is1, s_is0, s_may1, s_may0, uT_0, uT_o, uT_2, uT_T, h1, e1, i1, i2, i3, i4, hb, cs, nI_1]
    · refine Eq.trans (by first | exact x230_16 | exact x230_16 (rf_ref _) | exact x230_16 rfl) ?_
      simp [x230_17, x230_18, x230_21, x230_24, x230_25, x230_28, x230_29, x230_30, x230_33, x230_35, x230_36, x230_37, x230_38, x230_39, x230_42, rf_ref, c1_int, c1_ref, c1_UV, mst_T0, mst_I0, mst_R0, mst_J0, mst_T, mst_N, mst_I, mst_J, mst_B, mst_sI, mst_sI0, mst_sJ, mst_sJ0, uR_s, uR_o, uR_2, uR_uR, uL_s, uL_o, uL_1, up_s, up_o, mT, mN, mR, va_rf_some, litA, litB, litM, nI_add, okZ_0, okZ_1, okZ_zb, zb_0, gB_add, inb_lit, cl_lit, Nat.lt_irrefl, ↓reduceIte, if_true, if_false, RP_v, RP_n, s_is1, s_is0, s_may1, s_may0, uT_0, uT_o, uT_2, uT_T, h1]
  have e0 : uR (uT u 0) 10 (va_cpy (ordR (u.1 4)) (u.1 10) 0 0 0) = uT u 0 := by
    rw [cpy_0]
    have := uR_id (u := uT u 0) (j := 10)
    rwa [uT_o (by decide)] at this
  rw [e0, ← hT] at hl
  have hTp : ∀ p, p < K → T p = ordR (u.1 4) p := fun p hp => by rw [hT]; unfold va_cpy; rw [if_pos (by omega)]; congr 1; omega
  have v0 : (uR (uT u 0) 10 T).1 0 = (uT u 0).1 0 := uR_o (by decide)
  have v4 : (uR (uT u 0) 10 T).1 4 = u.1 4 := by rw [uR_o (by decide), uT_o (by decide)]
  have v10 : (uR (uT u 0) 10 T).1 10 = T := uR_s
  have sp := fun d => s_pairsApart (d := d) (G := G) (o := o) (u := uR (uT u 0) 10 T) (a := a) (K := K) (A := A) (by rw [v0, v4]; have := VW_T (x := 0) hV'; rwa [uT_o (show ¬ 4 = 0 by decide)] at this) ha (fun p hp => by
    rw [v10, hTp p hp]
    obtain ⟨k, hk, e⟩ := vp_in_of (ho.1 p hp) (by omega)
    exact ⟨k, hk, e⟩)
  rw [v4, v10] at sp
  have ep : ∀ P, P ≤ K → prS (paB (u.1 4) T a) K P = prS (paB (u.1 4) (ordR (u.1 4)) a) K P := by
    intro P
    induction P with
    | zero => intro _; rfl
    | succ P ih =>
      intro hP
      rw [prS, prS, ih (by omega)]
      congr 1
      have : ∀ m, m ≤ K - 1 - P → cnt (fun j => paB (u.1 4) T a P (P + 1 + j)) m = cnt (fun j => paB (u.1 4) (ordR (u.1 4)) a P (P + 1 + j)) m := by
        intro m
        induction m with
        | zero => intro _; rfl
        | succ m ihm =>
          intro hm
          rw [cnt, cnt, ihm (by omega)]
          unfold paB
          rw [hTp P (by omega), hTp (P + 1 + m) (by omega)]
      exact this _ (Nat.le_refl _)
  rw [ep K (Nat.le_refl K)] at sp
  refine ⟨T, ?_⟩
  simp [x230_0, x230_1, x230_2, x230_3, x230_6, x230_9, x230_12, x230_13, x230_14, x230_15, x230_45, x230_46, x230_47, x230_50, rf_ref, c1_int, c1_ref, c1_UV, mst_T0, mst_I0, mst_R0, mst_J0, mst_T, mst_N, mst_I, mst_J, mst_B, mst_sI, mst_sI0, mst_sJ, mst_sJ0, uR_s, uR_o, uR_2, uR_uR, uL_s, uL_o, uL_1, up_s, up_o, mT, mN, mR, va_rf_some, litA, litB, litM, nI_add, okZ_0, okZ_1, okZ_zb, zb_0, gB_add, inb_lit, cl_lit, Nat.lt_irrefl, ↓reduceIte, if_true, if_false, RP_v, RP_n, s_is1, s_is0, s_may1, s_may0, uT_0, uT_o, uT_2, uT_T, s_isAsker', s_isClass', s_isIn9, s_isIn5, s_isIn4, s_isIn59, s_isIn3, s_isIn20, s_isTally', s_areTicks', q, zb_true, zb_false, hb, hl, sp]
end

/-! the component: the first of a line -/
/-- the lambdas that capture nothing -/
def CLM (G : Hp) : Prop := gA G 327 < gB G ∧ gT G (gA G 327) = 27 ∧ gA G 328 < gB G ∧ gT G (gA G 328) = 28
/-- the waiting list: element k is the row's request ix k -/
def WL (G : Hp) (b e : Nat) (r : Rw) (m : Nat) (ix : Nat → Nat) : Prop := ∀ k, k < m → ∃ q, gR G e k = some q ∧ inB b q = false ∧ RQ G q r (ix k)
def vlF (r : Rw) (t : Int32) (i : Nat) : Int32 := if t = 1 then r (118 + 6 * i + 3) else if t = 2 then - r (20 + cl (r (118 + 6 * i + 1))) else if t = 3 then - r (28 + cl (r (118 + 6 * i + 1))) else r (118 + 6 * i)
def ftB (r : Rw) (t : Int32) (ix : Nat → Nat) (k : Nat) (q : Option Nat) : Bool := match q with
  | none => true
  | some j => decide (vlF r t (ix k) < vlF r t (ix j))
def ftF (r : Rw) (ix : Nat → Nat) (kd : Int32) : Nat → Option Nat
  | 0 => none
  | k + 1 => if r (118 + 6 * ix k + 2) = kd ∧ ftB r (r (15 + cl kd)) ix k (ftF r ix kd k) = true then some k else ftF r ix kd k
/-- what BQ says, by ix -/
def BX (G : Hp) (b : Nat) (s : Bs) (r : Rw) (m : Nat) (ix : Nat → Nat) : Prop := gT G s.2.2.2.2 = 110 ∧ inB b s.2.2.2.2 = false ∧ m ≤ gN G s.2.2.2.2 ∧ gN G s.2.2.2.2 < 2 ^ 31 ∧ s.1 13 2 = nI m ∧ m ≤ 40 ∧ WL G b s.2.2.2.2 r m ix
theorem BX.AL {G : Hp} {b m : Nat} {s : Bs} {r : Rw} {ix : Nat → Nat} (h : BX G b s r m ix) : AL (bst G b s) (b + 13) s.2.2.2.2 m := by
  obtain ⟨h1, h2, h3, h4, h5, h6, -⟩ := h
  exact ⟨bst_T (j := 13) (by omega), bst_R (j := 13) (by omega), by rw [bst_I (j := 13) (by omega)]; exact h5, by rw [bst_Tr h2]; exact h1, by rw [bst_Nr h2]; exact h3, by omega⟩
section
variable {d b m : Nat} {G : Hp} {s : Bs} {c w r : Rw} {K A : Nat} {ix : Nat → Nat}
set_option maxHeartbeats 4000000
set_option maxRecDepth 20000
theorem s_isVetoedC {k : Int32} : XP PP d 127 0 [.ref b, .int k] [] (bst G b s) = some (.inl (some (.int (zb (hasB (s.1 0 24) k)))), bst G b s) := by
  unfold hasB zb
  by_cases q : (s.1 0 24 >>> (k &&& 31)) &&& 1 = 1
  · simp [x127_0, x127_1, x127_4, x127_5, x127_6, x127_7, x127_8, x127_9, x127_12, x127_13, x127_16, x127_17, bst_T0, bst_T, bst_N, bst_I0, bst_I, bst_R0, bst_R, bst_B, bst_X, bst_S, bst_A, bst_sI, bst_sI0, bst_sC, bst_sY, bst_sE, bI_s, bI_o, bI_2, bI_bI, bC_1, bY_1, bE_1, bT, bN, bR, rf_ref, rf_va, rf_null, c1_int, c1_ref, c1_UV, rvo_n, rvo_r, c1_null, c1_va, up_s, up_o, va_rf_some, va_rf_none, litA, litB, litM, nI_add, okZ_0, okZ_1, okZ_zb, zb_0, gB_add, inb_lit, cl_lit, Nat.lt_irrefl, ↓reduceIte, if_true, if_false, RP_v, RP_n, q]
  · simp [x127_0, x127_1, x127_4, x127_5, x127_6, x127_7, x127_8, x127_9, x127_12, x127_13, x127_16, x127_17, bst_T0, bst_T, bst_N, bst_I0, bst_I, bst_R0, bst_R, bst_B, bst_X, bst_S, bst_A, bst_sI, bst_sI0, bst_sC, bst_sY, bst_sE, bI_s, bI_o, bI_2, bI_bI, bC_1, bY_1, bE_1, bT, bN, bR, rf_ref, rf_va, rf_null, c1_int, c1_ref, c1_UV, rvo_n, rvo_r, c1_null, c1_va, up_s, up_o, va_rf_some, va_rf_none, litA, litB, litM, nI_add, okZ_0, okZ_1, okZ_zb, zb_0, gB_add, inb_lit, cl_lit, Nat.lt_irrefl, ↓reduceIte, if_true, if_false, RP_v, RP_n, q]
theorem s_busPlace {x : Int32} (h : BX G b s r m ix) : XP PP (d + 3) 130 0 [.ref b, .int x, UV] [] (bst G b s) = some (.inl (some (.int (oI (fst (fun k => decide (r (118 + 6 * ix k) = x)) m)))), bst G b s) := by
  have hAL := h.AL
  obtain ⟨h1, h2, h3, h4, h5, h6, h7⟩ := h
  have ss := fun d => s_alSize (d := d) hAL
  have hl : XP PP (d + 3) 130 2 [.ref b, .int x, .int 0] [] (bst G b s) = some (.inl (some (.int (oI (fst (fun k => decide (r (118 + 6 * ix k) = x)) m)))), bst G b s) := by
    refine (XP_fst m (fun k => decide (r (118 + 6 * ix k) = x)) (fun k => [.ref b, .int x, .int (nI k)]) (fun _ => bst G b s) (X := some (.inl (some (.int (-1))), bst G b s)) (fun k => some (.inl (some (.int (nI k))), bst G b s)) ?_ ?_ ?_).trans ?_
    · intro k hk hx
      have hx' := of_decide_eq_true hx
      obtain ⟨q, w1, w2, w3⟩ := h7 k hk
      have e1 : ¬ nI m ≤ nI k := nI_ge hk (by omega)
      have sg := fun d => s_alGet (d := d) hAL hk (by rw [bst_Nr h2]; exact h4)
      rw [bst_Rr h2, w1] at sg
      refine Eq.trans (by first | exact x130_2 | exact x130_2 (rf_ref _) | exact x130_2 rfl) ?_
      simp [x130_0, x130_1, x130_3, x130_4, x130_7_13, x130_7_19, x130_12, x130_15, x130_16, x130_19, x130_20_13, x130_20_19, x130_25, x130_25n, x130_28, x130_31, x130_32, x130_35, x130_36, x130_37, x130_40, x130_43, x130_44, bst_T0, bst_T, bst_N, bst_I0, bst_I, bst_R0, bst_R, bst_B, bst_X, bst_S, bst_A, bst_sI, bst_sI0, bst_sC, bst_sY, bst_sE, bI_s, bI_o, bI_2, bI_bI, bC_1, bY_1, bE_1, bT, bN, bR, rf_ref, rf_va, rf_null, c1_int, c1_ref, c1_UV, rvo_n, rvo_r, c1_null, c1_va, up_s, up_o, va_rf_some, va_rf_none, litA, litB, litM, nI_add, okZ_0, okZ_1, okZ_zb, zb_0, gB_add, inb_lit, cl_lit, Nat.lt_irrefl, ↓reduceIte, if_true, if_false, RP_v, RP_n, ss, sg, e1, bst_Tr w2, bst_Ir w2, w3.1, w3.2.1, hx']
    · intro k hk hx
      have hx' := of_decide_eq_false hx
      obtain ⟨q, w1, w2, w3⟩ := h7 k hk
      have e1 : ¬ nI m ≤ nI k := nI_ge hk (by omega)
      have sg := fun d => s_alGet (d := d) hAL hk (by rw [bst_Nr h2]; exact h4)
      rw [bst_Rr h2, w1] at sg
      refine Eq.trans (by first | exact x130_2 | exact x130_2 (rf_ref _) | exact x130_2 rfl) ?_
      simp [x130_0, x130_1, x130_3, x130_4, x130_7_13, x130_7_19, x130_12, x130_15, x130_16, x130_19, x130_20_13, x130_20_19, x130_25, x130_25n, x130_28, x130_31, x130_32, x130_35, x130_36, x130_37, x130_40, x130_43, x130_44, bst_T0, bst_T, bst_N, bst_I0, bst_I, bst_R0, bst_R, bst_B, bst_X, bst_S, bst_A, bst_sI, bst_sI0, bst_sC, bst_sY, bst_sE, bI_s, bI_o, bI_2, bI_bI, bC_1, bY_1, bE_1, bT, bN, bR, rf_ref, rf_va, rf_null, c1_int, c1_ref, c1_UV, rvo_n, rvo_r, c1_null, c1_va, up_s, up_o, va_rf_some, va_rf_none, litA, litB, litM, nI_add, okZ_0, okZ_1, okZ_zb, zb_0, gB_add, inb_lit, cl_lit, Nat.lt_irrefl, ↓reduceIte, if_true, if_false, RP_v, RP_n, ss, sg, e1, bst_Tr w2, bst_Ir w2, w3.1, w3.2.1, hx', nI_1]
    · refine Eq.trans (by first | exact x130_2 | exact x130_2 (rf_ref _) | exact x130_2 rfl) ?_
      simp [x130_0, x130_1, x130_3, x130_4, x130_7_13, x130_7_19, x130_12, x130_15, x130_16, x130_19, x130_20_13, x130_20_19, x130_25, x130_25n, x130_28, x130_31, x130_32, x130_35, x130_36, x130_37, x130_40, x130_43, x130_44, bst_T0, bst_T, bst_N, bst_I0, bst_I, bst_R0, bst_R, bst_B, bst_X, bst_S, bst_A, bst_sI, bst_sI0, bst_sC, bst_sY, bst_sE, bI_s, bI_o, bI_2, bI_bI, bC_1, bY_1, bE_1, bT, bN, bR, rf_ref, rf_va, rf_null, c1_int, c1_ref, c1_UV, rvo_n, rvo_r, c1_null, c1_va, up_s, up_o, va_rf_some, va_rf_none, litA, litB, litM, nI_add, okZ_0, okZ_1, okZ_zb, zb_0, gB_add, inb_lit, cl_lit, Nat.lt_irrefl, ↓reduceIte, if_true, if_false, RP_v, RP_n, ss]
    · cases fst (fun k => decide (r (118 + 6 * ix k) = x)) m <;> rfl
  simp [x130_0, x130_1, bst_T0, bst_T, bst_N, bst_I0, bst_I, bst_R0, bst_R, bst_B, bst_X, bst_S, bst_A, bst_sI, bst_sI0, bst_sC, bst_sY, bst_sE, bI_s, bI_o, bI_2, bI_bI, bC_1, bY_1, bE_1, bT, bN, bR, rf_ref, rf_va, rf_null, c1_int, c1_ref, c1_UV, rvo_n, rvo_r, c1_null, c1_va, up_s, up_o, va_rf_some, va_rf_none, litA, litB, litM, nI_add, okZ_0, okZ_1, okZ_zb, zb_0, gB_add, inb_lit, cl_lit, Nat.lt_irrefl, ↓reduceIte, if_true, if_false, RP_v, RP_n, hl]
theorem s_mea0 {q i : Nat} (w2 : inB b q = false) (w3 : RQ G q r i) : XP PP d 114 0 [.ref q] [] (bst G b s) = some (.inl (some (.int (r (118 + 6 * i)))), bst G b s) := by
  simp [x114_0, x114_1, x114_4, bst_T0, bst_T, bst_N, bst_I0, bst_I, bst_R0, bst_R, bst_B, bst_X, bst_S, bst_A, bst_sI, bst_sI0, bst_sC, bst_sY, bst_sE, bI_s, bI_o, bI_2, bI_bI, bC_1, bY_1, bE_1, bT, bN, bR, rf_ref, rf_va, rf_null, c1_int, c1_ref, c1_UV, rvo_n, rvo_r, c1_null, c1_va, up_s, up_o, va_rf_some, va_rf_none, litA, litB, litM, nI_add, okZ_0, okZ_1, okZ_zb, zb_0, gB_add, inb_lit, cl_lit, Nat.lt_irrefl, ↓reduceIte, if_true, if_false, RP_v, RP_n, bst_Tr w2, bst_Ir w2, w3.1, w3.2.1]
theorem s_mea1 {q i : Nat} (w2 : inB b q = false) (w3 : RQ G q r i) : XP PP d 115 0 [.ref q] [] (bst G b s) = some (.inl (some (.int (r (118 + 6 * i + 3)))), bst G b s) := by
  simp [x115_0, x115_1, x115_4, bst_T0, bst_T, bst_N, bst_I0, bst_I, bst_R0, bst_R, bst_B, bst_X, bst_S, bst_A, bst_sI, bst_sI0, bst_sC, bst_sY, bst_sE, bI_s, bI_o, bI_2, bI_bI, bC_1, bY_1, bE_1, bT, bN, bR, rf_ref, rf_va, rf_null, c1_int, c1_ref, c1_UV, rvo_n, rvo_r, c1_null, c1_va, up_s, up_o, va_rf_some, va_rf_none, litA, litB, litM, nI_add, okZ_0, okZ_1, okZ_zb, zb_0, gB_add, inb_lit, cl_lit, Nat.lt_irrefl, ↓reduceIte, if_true, if_false, RP_v, RP_n, bst_Tr w2, bst_Ir w2, w3.1, w3.2.2.2.2.1]
theorem s_mea2 {q i a : Nat} (w2 : inB b q = false) (w3 : RQ G q r i) (ha : r (118 + 6 * i + 1) = nI a) (ha8 : a < 8) (hc : s.1 1 a = r (20 + a)) : XP PP d 116 0 [.ref b, .ref q] [] (bst G b s) = some (.inl (some (.int (- r (20 + a)))), bst G b s) := by
  have i1 : inb (nI a) 8 = true := inb_nI (by omega) (by omega)
  have i2 : (nI a).toNatClampNeg = a := nI_clamp (by omega)
  simp [x116_0, x116_1, x116_4, x116_5, x116_8, x116_9, x116_10, bst_T0, bst_T, bst_N, bst_I0, bst_I, bst_R0, bst_R, bst_B, bst_X, bst_S, bst_A, bst_sI, bst_sI0, bst_sC, bst_sY, bst_sE, bI_s, bI_o, bI_2, bI_bI, bC_1, bY_1, bE_1, bT, bN, bR, rf_ref, rf_va, rf_null, c1_int, c1_ref, c1_UV, rvo_n, rvo_r, c1_null, c1_va, up_s, up_o, va_rf_some, va_rf_none, litA, litB, litM, nI_add, okZ_0, okZ_1, okZ_zb, zb_0, gB_add, inb_lit, cl_lit, Nat.lt_irrefl, ↓reduceIte, if_true, if_false, RP_v, RP_n, bst_Tr w2, bst_Ir w2, w3.1, w3.2.2.1, ha, i1, i2, hc]
theorem s_mea3 {q i a : Nat} (w2 : inB b q = false) (w3 : RQ G q r i) (ha : r (118 + 6 * i + 1) = nI a) (ha8 : a < 8) (hc : s.1 2 a = r (28 + a)) : XP PP d 117 0 [.ref b, .ref q] [] (bst G b s) = some (.inl (some (.int (- r (28 + a)))), bst G b s) := by
  have i1 : inb (nI a) 8 = true := inb_nI (by omega) (by omega)
  have i2 : (nI a).toNatClampNeg = a := nI_clamp (by omega)
  simp [x117_0, x117_1, x117_4, x117_5, x117_8, x117_9, x117_10, bst_T0, bst_T, bst_N, bst_I0, bst_I, bst_R0, bst_R, bst_B, bst_X, bst_S, bst_A, bst_sI, bst_sI0, bst_sC, bst_sY, bst_sE, bI_s, bI_o, bI_2, bI_bI, bC_1, bY_1, bE_1, bT, bN, bR, rf_ref, rf_va, rf_null, c1_int, c1_ref, c1_UV, rvo_n, rvo_r, c1_null, c1_va, up_s, up_o, va_rf_some, va_rf_none, litA, litB, litM, nI_add, okZ_0, okZ_1, okZ_zb, zb_0, gB_add, inb_lit, cl_lit, Nat.lt_irrefl, ↓reduceIte, if_true, if_false, RP_v, RP_n, bst_Tr w2, bst_Ir w2, w3.1, w3.2.2.1, ha, i1, i2, hc]
/-- where a measure lies -/
def lmA (G : Hp) (b t : Nat) : Nat := if t = 0 then gA G 327 else if t = 1 then gA G 328 else if t = 2 then b + 15 else b + 16
theorem s_meaT {q i a t : Nat} {v0 v1 v2 v3 v4 v5 v6 v7 : Value} (hb : gB G ≤ b) (hL : CLM G) (ht : t < 4) (w2 : inB b q = false) (w3 : RQ G q r i) (ha : r (118 + 6 * i + 1) = nI a) (ha8 : a < 8) (hc : s.1 1 a = r (20 + a)) (hd : s.1 2 a = r (28 + a)) :
    XP PP (d + 3) 128 65 [v0, v1, v2, v3, v4, v5, v6, v7] [.ref q, .ref (lmA G b t)] (bst G b s) = XP PP (d + 3) 128 70 [v0, v1, v2, v3, v4, v5, v6, v7] [.int (vlF r (nI t) i)] (bst G b s) := by
  have hcl : cl (r (118 + 6 * i + 1)) = a := by rw [ha]; exact nI_clamp (by omega)
  have o1 : inB b (gA G 327) = false := inB_f.mpr (Or.inl (by have := hL.1; omega))
  have o2 : inB b (gA G 328) = false := inB_f.mpr (Or.inl (by have := hL.2.2.1; omega))
  have m0 := fun d => s_mea0 (d := d) (s := s) w2 w3
  have m1 := fun d => s_mea1 (d := d) (s := s) w2 w3
  have m2 := fun d => s_mea2 (d := d) w2 w3 ha ha8 hc
  have m3 := fun d => s_mea3 (d := d) w2 w3 ha ha8 hd
  rcases (by omega : t = 0 ∨ t = 1 ∨ t = 2 ∨ t = 3) with e | e | e | e
  · subst e
    simp [x128_65_27, x128_65_28, x128_65_29, x128_65_30, bst_T0, bst_T, bst_N, bst_I0, bst_I, bst_R0, bst_R, bst_B, bst_X, bst_S, bst_A, bst_sI, bst_sI0, bst_sC, bst_sY, bst_sE, bI_s, bI_o, bI_2, bI_bI, bC_1, bY_1, bE_1, bT, bN, bR, rf_ref, rf_va, rf_null, c1_int, c1_ref, c1_UV, rvo_n, rvo_r, c1_null, c1_va, up_s, up_o, va_rf_some, va_rf_none, litA, litB, litM, nI_add, okZ_0, okZ_1, okZ_zb, zb_0, gB_add, inb_lit, cl_lit, Nat.lt_irrefl, ↓reduceIte, if_true, if_false, RP_v, RP_n, lmA, bst_Tr o1, hL.2.1, m0]
    rfl
  · subst e
    simp [x128_65_27, x128_65_28, x128_65_29, x128_65_30, bst_T0, bst_T, bst_N, bst_I0, bst_I, bst_R0, bst_R, bst_B, bst_X, bst_S, bst_A, bst_sI, bst_sI0, bst_sC, bst_sY, bst_sE, bI_s, bI_o, bI_2, bI_bI, bC_1, bY_1, bE_1, bT, bN, bR, rf_ref, rf_va, rf_null, c1_int, c1_ref, c1_UV, rvo_n, rvo_r, c1_null, c1_va, up_s, up_o, va_rf_some, va_rf_none, litA, litB, litM, nI_add, okZ_0, okZ_1, okZ_zb, zb_0, gB_add, inb_lit, cl_lit, Nat.lt_irrefl, ↓reduceIte, if_true, if_false, RP_v, RP_n, lmA, bst_Tr o2, hL.2.2.2, m1]
    rfl
  · subst e
    simp [x128_65_27, x128_65_28, x128_65_29, x128_65_30, bst_T0, bst_T, bst_N, bst_I0, bst_I, bst_R0, bst_R, bst_B, bst_X, bst_S, bst_A, bst_sI, bst_sI0, bst_sC, bst_sY, bst_sE, bI_s, bI_o, bI_2, bI_bI, bC_1, bY_1, bE_1, bT, bN, bR, rf_ref, rf_va, rf_null, c1_int, c1_ref, c1_UV, rvo_n, rvo_r, c1_null, c1_va, up_s, up_o, va_rf_some, va_rf_none, litA, litB, litM, nI_add, okZ_0, okZ_1, okZ_zb, zb_0, gB_add, inb_lit, cl_lit, Nat.lt_irrefl, ↓reduceIte, if_true, if_false, RP_v, RP_n, lmA, m2]
    unfold vlF
    rw [hcl]
    rfl
  · subst e
    simp [x128_65_27, x128_65_28, x128_65_29, x128_65_30, bst_T0, bst_T, bst_N, bst_I0, bst_I, bst_R0, bst_R, bst_B, bst_X, bst_S, bst_A, bst_sI, bst_sI0, bst_sC, bst_sY, bst_sE, bI_s, bI_o, bI_2, bI_bI, bC_1, bY_1, bE_1, bT, bN, bR, rf_ref, rf_va, rf_null, c1_int, c1_ref, c1_UV, rvo_n, rvo_r, c1_null, c1_va, up_s, up_o, va_rf_some, va_rf_none, litA, litB, litM, nI_add, okZ_0, okZ_1, okZ_zb, zb_0, gB_add, inb_lit, cl_lit, Nat.lt_irrefl, ↓reduceIte, if_true, if_false, RP_v, RP_n, lmA, m3]
    unfold vlF
    rw [hcl]
    rfl
end

/-! the component: the setup (8 cells from z on), counting votes -/
def SU (G : Hp) (z : Nat) (c w : Rw) (K A : Nat) : Prop := gT G z = 5 ∧ gR G z 0 = some (z + 1) ∧ gR G z 1 = some (z + 2) ∧ gR G z 2 = some (z + 3) ∧ gR G z 3 = some (z + 4) ∧ gR G z 4 = some (z + 5) ∧ gR G z 5 = some (z + 6) ∧ gR G z 6 = some (z + 7) ∧
  gT G (z + 1) = 16 ∧ gT G (z + 2) = 16 ∧ gT G (z + 5) = 100 ∧ gT G (z + 6) = 100 ∧ gT G (z + 7) = 100 ∧ gN G (z + 5) = 5 ∧ gN G (z + 6) = 8 ∧ gN G (z + 7) = 8 ∧ gI G (z + 1) 4 = nI K ∧ gI G (z + 2) 4 = nI A ∧ (∀ a, a < A → gI G (z + 7) a = w a) ∧
  gI G z 8 = c 3 ∧ gI G z 9 = c 4 ∧ gI G z 10 = c 5 ∧ gI G z 11 = c 6 ∧ gI G z 12 = c 7
/-- outside the block -/
def oB (b z : Nat) : Prop := ∀ j, j < 8 → inB b (z + j) = false
theorem oB.z {b z : Nat} (h : oB b z) : inB b z = false := h 0 (by omega)
/-- the bus's world of a vote -/
def BV (G : Hp) (b : Nat) (s : Bs) (c w r : Rw) (K A : Nat) : Prop := gB G ≤ b ∧ K ≤ 5 ∧ A ≤ 8 ∧ SU G s.2.1 c w K A ∧ oB b s.2.1 ∧ s.1 17 3 = nI K ∧ (∀ a, a < A → s.1 3 a = r (36 + a)) ∧ (∀ a, a < A → ∀ p, p < K → s.1 7 (5 * a + p) = bal r a p) ∧ ∀ a, a < A → BP (bal r a) K
def ctS (c w r : Rw) (K : Nat) (P : Rw × Rw × Rw) : Nat → Rw × Rw × Rw
  | 0 => P
  | a + 1 => if cnB c r a = true then (adP (bal r a) K (w a) K (ctS c w r K P a).1, adF (bal r a) (w a) K (ctS c w r K P a).2.1, adB (bal r a) K (w a) K (ctS c w r K P a).2.2) else ctS c w r K P a
/-- the weights of those that count and have one ahead of another one -/
def bef (c w r : Rw) (A k l : Nat) : Int32 := sm (fun a => if cnB c r a = true ∧ plc (bal r a) (nI k) < plc (bal r a) (nI l) then w a else 0) A
theorem ctS_v {c w r : Rw} {K A : Nat} (hK : K ≤ 5) (hB : ∀ a, a < A → BP (bal r a) K) {P F B : Rw} : ∀ a, a ≤ A →
    (∀ k, k < K → (ctS c w r K (P, F, B) a).1 k = P k + pts c w r K a k) ∧ (∀ k p, k < K → p < K → (ctS c w r K (P, F, B) a).2.1 (5 * k + p) = F (5 * k + p) + fis c w r a k p) ∧ (∀ k l, k < K → l < K → (ctS c w r K (P, F, B) a).2.2 (5 * k + l) = B (5 * k + l) + bef c w r a k l) := by
  intro a
  induction a with
  | zero =>
    intro _
    refine ⟨fun k _ => ?_, fun k p _ _ => ?_, fun k l _ _ => ?_⟩ <;> exact (Int32.add_zero _).symm
  | succ a ih =>
    intro ha
    obtain ⟨h1, h2, h3⟩ := ih (by omega)
    have hb := hB a (by omega)
    unfold ctS pts fis bef sm
    by_cases q : cnB c r a = true
    · simp only [q, true_and]
      refine ⟨fun k hk => ?_, fun k p hk hp => ?_, fun k l hk hl => ?_⟩
      · obtain ⟨e1, e2⟩ := qp_K hK hb hk
        show adP _ _ _ _ _ k = _
        unfold adP
        rw [if_pos e2, h1 k hk, e1, if_true, Int32.add_assoc]; rfl
      · obtain ⟨e1, e2⟩ := qp_K hK hb hk
        show adF _ _ _ _ _ = _
        unfold adF
        have m1 : (5 * k + p) / 5 = k := by omega
        have m2 : (5 * k + p) % 5 = p := by omega
        rw [m1, m2, h2 k p hk hp, Int32.add_assoc]
        have : (p < K ∧ qp (bal r a) k = p) = (bal r a p = nI k) := by
          obtain ⟨k', hk', x1, x2⟩ := qp_of hK hb hp
          refine propext ⟨fun z => ?_, fun z => ⟨hp, ?_⟩⟩
          · rw [x1, (x2 k).mp z.2]
          · rw [x1] at z
            exact (x2 k).mpr ((nI_eq (by omega) (by omega)).mp z.symm)
        simp only [this]; rfl
      · obtain ⟨e1, e2⟩ := qp_K hK hb hk
        obtain ⟨e3, e4⟩ := qp_K hK hb hl
        show adB _ _ _ _ _ _ = _
        unfold adB
        have m1 : (5 * k + l) / 5 = k := by omega
        have m2 : (5 * k + l) % 5 = l := by omega
        rw [m1, m2, h3 k l hk hl, Int32.add_assoc, ← e1, ← e3]
        have : (qp (bal r a) k < K ∧ qp (bal r a) k < qp (bal r a) l ∧ qp (bal r a) l < K) = (qp (bal r a) k < qp (bal r a) l) := propext ⟨fun z => z.2.1, fun z => ⟨e2, z, e4⟩⟩
        simp only [this]; rfl
    · simp only [q, Bool.false_eq_true, false_and, if_false, Int32.add_zero]
      exact ⟨h1, h2, h3⟩
section
variable {d b : Nat} {G : Hp} {s : Bs} {c w r : Rw} {K A : Nat}
set_option maxHeartbeats 4000000
set_option maxRecDepth 20000
theorem s_tmSize {m : Nat} {x : Int32} (h : gT G m = 16) (hx : gI G m 4 = x) : XP PP d 399 0 [.ref m] [] G = some (.inl (some (.int x)), G) := by
  simp [x399_0, x399_1, x399_4, rf_ref, rf_va, rf_null, c1_int, c1_ref, c1_UV, rvo_n, rvo_r, c1_null, c1_va, up_s, up_o, va_rf_some, va_rf_none, litA, litB, litM, nI_add, okZ_0, okZ_1, okZ_zb, zb_0, gB_add, inb_lit, cl_lit, Nat.lt_irrefl, ↓reduceIte, if_true, if_false, RP_v, RP_n, h, hx]
theorem s_suClasses (hz : oB b s.2.1) (hS : SU G s.2.1 c w K A) : XP PP (d + 1) 110 0 [.ref s.2.1] [] (bst G b s) = some (.inl (some (.int (nI K))), bst G b s) := by
  obtain ⟨zT, zR0, zR1, zR2, zR3, zR4, zR5, zR6, zT1, zT2, zT5, zT6, zT7, zN5, zN6, zN7, zK, zA, zW, zc3, zc4, zc5, zc6, zc7⟩ := hS
  have z0 := hz.z
  have z1 : gT (bst G b s) (s.2.1 + 1) = 16 := by rw [bst_Tr (hz 1 (by omega))]; exact zT1
  have z2 : gI (bst G b s) (s.2.1 + 1) 4 = nI K := by rw [bst_Ir (hz 1 (by omega))]; exact zK
  simp [x110_0, x110_1, x110_4, x110_7, bst_T0, bst_T, bst_N, bst_I0, bst_I, bst_R0, bst_R, bst_B, bst_X, bst_S, bst_A, bst_sI, bst_sI0, bst_sC, bst_sY, bst_sE, bI_s, bI_o, bI_2, bI_bI, bC_1, bY_1, bE_1, bT, bN, bR, rf_ref, rf_va, rf_null, c1_int, c1_ref, c1_UV, rvo_n, rvo_r, c1_null, c1_va, up_s, up_o, va_rf_some, va_rf_none, litA, litB, litM, nI_add, okZ_0, okZ_1, okZ_zb, zb_0, gB_add, inb_lit, cl_lit, Nat.lt_irrefl, ↓reduceIte, if_true, if_false, RP_v, RP_n, bst_Tr, bst_Rr, z0, zT, zR0, z1, s_tmSize z1 z2]
theorem s_suAskers (hz : oB b s.2.1) (hS : SU G s.2.1 c w K A) : XP PP (d + 1) 112 0 [.ref s.2.1] [] (bst G b s) = some (.inl (some (.int (nI A))), bst G b s) := by
  obtain ⟨zT, zR0, zR1, zR2, zR3, zR4, zR5, zR6, zT1, zT2, zT5, zT6, zT7, zN5, zN6, zN7, zK, zA, zW, zc3, zc4, zc5, zc6, zc7⟩ := hS
  have z0 := hz.z
  have z1 : gT (bst G b s) (s.2.1 + 2) = 16 := by rw [bst_Tr (hz 2 (by omega))]; exact zT2
  have z2 : gI (bst G b s) (s.2.1 + 2) 4 = nI A := by rw [bst_Ir (hz 2 (by omega))]; exact zA
  simp [x112_0, x112_1, x112_4, x112_7, bst_T0, bst_T, bst_N, bst_I0, bst_I, bst_R0, bst_R, bst_B, bst_X, bst_S, bst_A, bst_sI, bst_sI0, bst_sC, bst_sY, bst_sE, bI_s, bI_o, bI_2, bI_bI, bC_1, bY_1, bE_1, bT, bN, bR, rf_ref, rf_va, rf_null, c1_int, c1_ref, c1_UV, rvo_n, rvo_r, c1_null, c1_va, up_s, up_o, va_rf_some, va_rf_none, litA, litB, litM, nI_add, okZ_0, okZ_1, okZ_zb, zb_0, gB_add, inb_lit, cl_lit, Nat.lt_irrefl, ↓reduceIte, if_true, if_false, RP_v, RP_n, bst_Tr, bst_Rr, z0, zT, zR1, z1, s_tmSize z1 z2]
theorem s_busCounts {a : Nat} (h : BV G b s c w r K A) (ha : a < A) : XP PP d 119 0 [.ref b, .int (nI a)] [] (bst G b s) = some (.inl (some (.int (zb (decide (r (36 + a) < c 7))))), bst G b s) := by
  obtain ⟨hb, hK, hA, hS, hz, h3, hs, hbl, hB⟩ := h
  obtain ⟨zT, zR0, zR1, zR2, zR3, zR4, zR5, zR6, zT1, zT2, zT5, zT6, zT7, zN5, zN6, zN7, zK, zA, zW, zc3, zc4, zc5, zc6, zc7⟩ := hS
  have z0 := hz.z
  have i1 : inb (nI a) 8 = true := inb_nI (by omega) (by omega)
  have i2 : (nI a).toNatClampNeg = a := nI_clamp (by omega)
  have e := hs a ha
  by_cases q : r (36 + a) < c 7
  · simp [x119_0, x119_1, x119_4, x119_5, x119_6, x119_7, x119_10, x119_13, x119_16, x119_17, x119_20, x119_21, bst_T0, bst_T, bst_N, bst_I0, bst_I, bst_R0, bst_R, bst_B, bst_X, bst_S, bst_A, bst_sI, bst_sI0, bst_sC, bst_sY, bst_sE, bI_s, bI_o, bI_2, bI_bI, bC_1, bY_1, bE_1, bT, bN, bR, rf_ref, rf_va, rf_null, c1_int, c1_ref, c1_UV, rvo_n, rvo_r, c1_null, c1_va, up_s, up_o, va_rf_some, va_rf_none, litA, litB, litM, nI_add, okZ_0, okZ_1, okZ_zb, zb_0, gB_add, inb_lit, cl_lit, Nat.lt_irrefl, ↓reduceIte, if_true, if_false, RP_v, RP_n, bst_Tr, bst_Rr, bst_Ir, z0, zT, zc7, i1, i2, e, q, Int32.not_le.mpr q, zb]
  · simp [x119_0, x119_1, x119_4, x119_5, x119_6, x119_7, x119_10, x119_13, x119_16, x119_17, x119_20, x119_21, bst_T0, bst_T, bst_N, bst_I0, bst_I, bst_R0, bst_R, bst_B, bst_X, bst_S, bst_A, bst_sI, bst_sI0, bst_sC, bst_sY, bst_sE, bI_s, bI_o, bI_2, bI_bI, bC_1, bY_1, bE_1, bT, bN, bR, rf_ref, rf_va, rf_null, c1_int, c1_ref, c1_UV, rvo_n, rvo_r, c1_null, c1_va, up_s, up_o, va_rf_some, va_rf_none, litA, litB, litM, nI_add, okZ_0, okZ_1, okZ_zb, zb_0, gB_add, inb_lit, cl_lit, Nat.lt_irrefl, ↓reduceIte, if_true, if_false, RP_v, RP_n, bst_Tr, bst_Rr, bst_Ir, z0, zT, zc7, i1, i2, e, q, Int32.not_lt.mp q, zb]
theorem BV.sh {v : Int32} {P F B : Rw} (h : BV G b s c w r K A) : BV G b (shU s v P F B) c w r K A := by
  obtain ⟨hb, hK, hA, hS, hz, h3, hs, hbl, hB⟩ := h
  refine ⟨hb, hK, hA, hS, hz, ?_, ?_, ?_, hB⟩
  · rw [shU_17, up_o (by decide)]; exact h3
  · rw [shU_o (by decide) (by decide) (by decide) (by decide)]; exact hs
  · rw [shU_o (by decide) (by decide) (by decide) (by decide)]; exact hbl
/-- the sheet behind a count of all but x's votes -/
def shC (s : Bs) (c w r : Rw) (K A : Nat) : Bs := shU s (nI (cnt (cnB c r) A)) (ctS c w r K (zrF (s.1 18) 5, zrF (s.1 19) 25, zrF (s.1 20) 25) A).1 (ctS c w r K (zrF (s.1 18) 5, zrF (s.1 19) 25, zrF (s.1 20) 25) A).2.1 (ctS c w r K (zrF (s.1 18) 5, zrF (s.1 19) 25, zrF (s.1 20) 25) A).2.2
theorem s_busCount {x : Int32} (h : BV G b s c w r K A) : XP PP (d + 2) 118 0 [.ref b, .int x, UV] [] (bst G b s) = some (.inl (some (.ref (b + 17))), bst G b (shC s (va_up c 19 x) w r K A)) := by
  have h' := h
  obtain ⟨hb, hK, hA, hS, hz, h3, hs, hbl, hB⟩ := h
  have hS' := hS
  obtain ⟨zT, zR0, zR1, zR2, zR3, zR4, zR5, zR6, zT1, zT2, zT5, zT6, zT7, zN5, zN6, zN7, zK, zA, zW, zc3, zc4, zc5, zc6, zc7⟩ := hS
  have z0 := hz.z
  have z7 := hz 7 (by omega)
  obtain ⟨c', hc'⟩ : ∃ c', c' = va_up c 19 x := ⟨_, rfl⟩
  obtain ⟨Q, hQ⟩ : ∃ Q, Q = (zrF (s.1 18) 5, zrF (s.1 19) 25, zrF (s.1 20) 25) := ⟨_, rfl⟩
  have hl : XP PP (d + 2) 118 9 [.ref b, .int x, .int 0] [] (bst G b (shU s (nI (cnt (cnB c' r) 0)) (ctS c' w r K Q 0).1 (ctS c' w r K Q 0).2.1 (ctS c' w r K Q 0).2.2)) = some (.inl (some (.ref (b + 17))), bst G b (shU s (nI (cnt (cnB c' r) A)) (ctS c' w r K Q A).1 (ctS c' w r K Q A).2.1 (ctS c' w r K Q A).2.2)) := by
    refine XP_for A (fun a => [.ref b, .int x, .int (nI a)]) (fun a => bst G b (shU s (nI (cnt (cnB c' r) a)) (ctS c' w r K Q a).1 (ctS c' w r K Q a).2.1 (ctS c' w r K Q a).2.2)) ?_ ?_ 0 (Nat.zero_le _)
    · intro a ha
      have e1 : ¬ nI A ≤ nI a := nI_ge ha (by omega)
      have i1 : inb (nI a) 8 = true := inb_nI (by omega) (by omega)
      have i2 : (nI a).toNatClampNeg = a := nI_clamp (by omega)
      have sA := fun d v P F B => s_suAskers (d := d) (b := b) (G := G) (s := shU s v P F B) hz hS'
      have sC := fun d v P F B => s_busCounts (d := d) (h'.sh (v := v) (P := P) (F := F) (B := B)) ha
      simp only [shU_2] at sA
      have e2 := zW a ha
      have ec : cnB c' r a = (decide (¬ nI a = x) && decide (r (36 + a) < c 7)) := by
        rw [hc']; unfold cnB; rw [up_s, up_o (by decide)]
      by_cases q : r (36 + a) < c 7
      · by_cases q2 : nI a = x
        · have ec' : cnB c' r a = false := by rw [ec]; simp [q2]
          subst q2
          refine Eq.trans (by first | exact x118_9 | exact x118_9 (rf_ref _) | exact x118_9 rfl) ?_
          simp [x118_0, x118_1, x118_4, x118_7, x118_8, x118_10, x118_11, x118_14, x118_17, x118_20, x118_21, x118_22, x118_25, x118_28, x118_29, x118_30, x118_33, x118_34, x118_37, x118_38, x118_41, x118_42, x118_43, x118_44, x118_45, x118_48, x118_51, x118_52, x118_53, x118_56, x118_59, x118_62, x118_63, x118_66, bst_T0, bst_T, bst_N, bst_I0, bst_I, bst_R0, bst_R, bst_B, bst_X, bst_S, bst_A, bst_sI, bst_sI0, bst_sC, bst_sY, bst_sE, bI_s, bI_o, bI_2, bI_bI, bC_1, bY_1, bE_1, bT, bN, bR, rf_ref, rf_va, rf_null, c1_int, c1_ref, c1_UV, rvo_n, rvo_r, c1_null, c1_va, up_s, up_o, va_rf_some, va_rf_none, litA, litB, litM, nI_add, okZ_0, okZ_1, okZ_zb, zb_0, gB_add, inb_lit, cl_lit, Nat.lt_irrefl, ↓reduceIte, if_true, if_false, RP_v, RP_n, shU_17, shU_18, shU_19, shU_20, shU_o, shU_2, shU_w17, shU_w18, shU_w19, shU_w20, va_up_up, sA, sC, e1, q, ec', cnt, ctS, bst_Tr, bst_Rr, z0, zT, zb, nI_1]
        · have ec' : cnB c' r a = true := by rw [ec]; simp [q2, q]
          have sa := fun d v P F B => s_shAdd (d := d) (G := G) (b := b) (s := shU s v P F B) (w := w a) (n0 := 5 * a) hb hK (by rw [shU_17, up_o (by decide)]; exact h3) (by rw [shU_o (by decide) (by decide) (by decide) (by decide)]; exact hbl a ha) (by omega) (hB a ha)
          simp only [shU_shU, shU_18, shU_19, shU_20, shU_17, up_s] at sa
          refine Eq.trans (by first | exact x118_9 | exact x118_9 (rf_ref _) | exact x118_9 rfl) ?_
          simp [x118_0, x118_1, x118_4, x118_7, x118_8, x118_10, x118_11, x118_14, x118_17, x118_20, x118_21, x118_22, x118_25, x118_28, x118_29, x118_30, x118_33, x118_34, x118_37, x118_38, x118_41, x118_42, x118_43, x118_44, x118_45, x118_48, x118_51, x118_52, x118_53, x118_56, x118_59, x118_62, x118_63, x118_66, bst_T0, bst_T, bst_N, bst_I0, bst_I, bst_R0, bst_R, bst_B, bst_X, bst_S, bst_A, bst_sI, bst_sI0, bst_sC, bst_sY, bst_sE, bI_s, bI_o, bI_2, bI_bI, bC_1, bY_1, bE_1, bT, bN, bR, rf_ref, rf_va, rf_null, c1_int, c1_ref, c1_UV, rvo_n, rvo_r, c1_null, c1_va, up_s, up_o, va_rf_some, va_rf_none, litA, litB, litM, nI_add, okZ_0, okZ_1, okZ_zb, zb_0, gB_add, inb_lit, cl_lit, Nat.lt_irrefl, ↓reduceIte, if_true, if_false, RP_v, RP_n, shU_17, shU_18, shU_19, shU_20, shU_o, shU_2, shU_w17, shU_w18, shU_w19, shU_w20, va_up_up, sA, sC, sa, e1, i1, i2, e2, q, q2, ec', cnt, ctS, bst_Tr, bst_Rr, bst_Nr, bst_Ir, z0, z7, zT, zR6, zT7, zN7, zb, nI_1]
      · have ec' : cnB c' r a = false := by rw [ec]; simp [q]
        refine Eq.trans (by first | exact x118_9 | exact x118_9 (rf_ref _) | exact x118_9 rfl) ?_
        simp [x118_0, x118_1, x118_4, x118_7, x118_8, x118_10, x118_11, x118_14, x118_17, x118_20, x118_21, x118_22, x118_25, x118_28, x118_29, x118_30, x118_33, x118_34, x118_37, x118_38, x118_41, x118_42, x118_43, x118_44, x118_45, x118_48, x118_51, x118_52, x118_53, x118_56, x118_59, x118_62, x118_63, x118_66, bst_T0, bst_T, bst_N, bst_I0, bst_I, bst_R0, bst_R, bst_B, bst_X, bst_S, bst_A, bst_sI, bst_sI0, bst_sC, bst_sY, bst_sE, bI_s, bI_o, bI_2, bI_bI, bC_1, bY_1, bE_1, bT, bN, bR, rf_ref, rf_va, rf_null, c1_int, c1_ref, c1_UV, rvo_n, rvo_r, c1_null, c1_va, up_s, up_o, va_rf_some, va_rf_none, litA, litB, litM, nI_add, okZ_0, okZ_1, okZ_zb, zb_0, gB_add, inb_lit, cl_lit, Nat.lt_irrefl, ↓reduceIte, if_true, if_false, RP_v, RP_n, shU_17, shU_18, shU_19, shU_20, shU_o, shU_2, shU_w17, shU_w18, shU_w19, shU_w20, va_up_up, sA, sC, e1, q, ec', cnt, ctS, bst_Tr, bst_Rr, z0, zT, zb, nI_1]
    · have sA := fun d v P F B => s_suAskers (d := d) (b := b) (G := G) (s := shU s v P F B) hz hS'
      simp only [shU_2] at sA
      refine Eq.trans (by first | exact x118_9 | exact x118_9 (rf_ref _) | exact x118_9 rfl) ?_
      simp [x118_0, x118_1, x118_4, x118_7, x118_8, x118_10, x118_11, x118_14, x118_17, x118_20, x118_21, x118_22, x118_25, x118_28, x118_29, x118_30, x118_33, x118_34, x118_37, x118_38, x118_41, x118_42, x118_43, x118_44, x118_45, x118_48, x118_51, x118_52, x118_53, x118_56, x118_59, x118_62, x118_63, x118_66, bst_T0, bst_T, bst_N, bst_I0, bst_I, bst_R0, bst_R, bst_B, bst_X, bst_S, bst_A, bst_sI, bst_sI0, bst_sC, bst_sY, bst_sE, bI_s, bI_o, bI_2, bI_bI, bC_1, bY_1, bE_1, bT, bN, bR, rf_ref, rf_va, rf_null, c1_int, c1_ref, c1_UV, rvo_n, rvo_r, c1_null, c1_va, up_s, up_o, va_rf_some, va_rf_none, litA, litB, litM, nI_add, okZ_0, okZ_1, okZ_zb, zb_0, gB_add, inb_lit, cl_lit, Nat.lt_irrefl, ↓reduceIte, if_true, if_false, RP_v, RP_n, shU_17, shU_18, shU_19, shU_20, shU_o, shU_2, shU_w17, shU_w18, shU_w19, shU_w20, va_up_up, sA, bst_Tr, bst_Rr, z0, zT]
  have hcl := fun d => s_shClear (d := d) (s := s) hb
  have e0 : cnt (cnB c' r) 0 = 0 := rfl
  have e1 : ctS c' w r K Q 0 = Q := rfl
  rw [e0, e1, hQ] at hl
  have e2 : nI 0 = 0 := rfl
  rw [e2] at hl
  unfold shC
  rw [← hc']
  simp [x118_0, x118_1, x118_4, x118_7, x118_8, bst_T0, bst_T, bst_N, bst_I0, bst_I, bst_R0, bst_R, bst_B, bst_X, bst_S, bst_A, bst_sI, bst_sI0, bst_sC, bst_sY, bst_sE, bI_s, bI_o, bI_2, bI_bI, bC_1, bY_1, bE_1, bT, bN, bR, rf_ref, rf_va, rf_null, c1_int, c1_ref, c1_UV, rvo_n, rvo_r, c1_null, c1_va, up_s, up_o, va_rf_some, va_rf_none, litA, litB, litM, nI_add, okZ_0, okZ_1, okZ_zb, zb_0, gB_add, inb_lit, cl_lit, Nat.lt_irrefl, ↓reduceIte, if_true, if_false, RP_v, RP_n, hcl, hl]
end

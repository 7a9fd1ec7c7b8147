/-! the component: a bus is made: its numbers -/
/-- numbers from 0 to m -/
def blF (g : Rw) (m : Nat) : Rw := fun x => if x < m then nI (x % 5) else g x
theorem blF_0 {g : Rw} : blF g 0 = g := by funext x; unfold blF; rw [if_neg (by omega)]
theorem blF_k {g : Rw} {m k : Nat} (h : m % 5 = k) : va_up (blF g m) m (nI k) = blF g (m + 1) := by
  funext x; unfold va_up blF
  by_cases e : x = m
  · subst e; rw [if_pos rfl, if_pos (by omega), h]
  · by_cases e2 : x < m
    · rw [if_neg e, if_pos e2, if_pos (by omega)]
    · rw [if_neg e, if_neg e2, if_neg (by omega)]
section
variable {d b z K A ty : Nat} {G : Hp} {c w : Rw} {s : Bs}
set_option maxHeartbeats 4000000
set_option maxRecDepth 20000
/-- the numbers of a bus at its making -/
def bs1 (G : Hp) (z : Nat) (s : Bs) : Bs := bI (bI (bI (bI s 1 (va_cpy (gI G (z + 6)) (s.1 1) 0 0 8)) 7 (blF (s.1 7) 40)) 8 (blF (s.1 8) 5)) 9 (va_cpy (gI G (z + 5)) (s.1 9) 0 0 5)
theorem s_ctor2 (hb : gB G ≤ b) (hz : oB b z) (hS : SU G z c w K A) {v3 v4 : Value} (h3 : c1 v3 = true) :
    XP PP (d + 6) 113 175 [.ref b, .ref z, .ref ty, v3, v4] [] (bst G b s) = XP PP (d + 6) 113 261 [.ref b, .ref z, .ref ty, .int 5, .int 5] [] (bst G b (bs1 G z s)) := by
  have hS' := hS
  obtain ⟨zT, zR0, zR1, zR2, zR3, zR4, zR5, zR6, zT1, zT2, zT5, zT6, zT7, zN5, zN6, zN7, zK, zA, zW, zc3, zc4, zc5, zc6, zc7⟩ := hS
  have z0 := hz.z
  have z5 := hz 5 (by omega)
  have z6 := hz 6 (by omega)
  have t0 : ∀ s', gT (bst G b s') z = 5 := fun s' => by rw [bst_Tr z0]; exact zT
  have r4 : ∀ s', gR (bst G b s') z 4 = some (z + 5) := fun s' => by rw [bst_Rr z0]; exact zR4
  have r5 : ∀ s', gR (bst G b s') z 5 = some (z + 6) := fun s' => by rw [bst_Rr z0]; exact zR5
  have t5 : ∀ s', gT (bst G b s') (z + 5) = 100 := fun s' => by rw [bst_Tr z5]; exact zT5
  have t6 : ∀ s', gT (bst G b s') (z + 6) = 100 := fun s' => by rw [bst_Tr z6]; exact zT6
  have n5 : ∀ s', gN (bst G b s') (z + 5) = 5 := fun s' => by rw [bst_Nr z5]; exact zN5
  have n6 : ∀ s', gN (bst G b s') (z + 6) = 8 := fun s' => by rw [bst_Nr z6]; exact zN6
  have i5 : ∀ s' k, gI (bst G b s') (z + 5) k = gI G (z + 5) k := fun s' k => bst_Ir z5
  have i6 : ∀ s' k, gI (bst G b s') (z + 6) k = gI G (z + 6) k := fun s' k => bst_Ir z6
  -- ballots of one asker
  have hin : ∀ a, a < 8 → ∀ s', XP PP (d + 6) 113 198 [.ref b, .ref z, .ref ty, .int (nI a), .int (nI 0)] [] (bst G b (bI s' 7 (blF (s.1 7) (5 * a + 0)))) = XP PP (d + 6) 113 177 [.ref b, .ref z, .ref ty, .int (nI (a + 1)), .int (nI 5)] [] (bst G b (bI s' 7 (blF (s.1 7) (5 * a + 5)))) := by
    intro a ha s'
    refine XP_for 5 (fun k => [.ref b, .ref z, .ref ty, .int (nI a), .int (nI k)]) (fun k => bst G b (bI s' 7 (blF (s.1 7) (5 * a + k)))) ?_ ?_ 0 (Nat.zero_le _)
    · intro k hk
      have e1 : ¬ (5 : Int32) ≤ nI k := nI_ge (b := 5) hk (by omega)
      have j1 : inb (nI (5 * a + k)) 40 = true := inb_nI (by omega) (by omega)
      have j2 : (nI (5 * a + k)).toNatClampNeg = 5 * a + k := nI_clamp (by omega)
      have e2 := blF_k (g := s.1 7) (m := 5 * a + k) (k := k) (by omega)
      refine (x113_198).trans ?_
      simp [x113_200, x113_201, x113_204, x113_205, x113_208, x113_209, x113_210, x113_211, x113_213, x113_214, x113_216, x113_217, x113_220, bst_T0, bst_T, bst_N, bst_I0, bst_I, bst_R0, bst_R, bst_B, bst_X, bst_S, bst_A, bst_sI, bst_sI0, bst_sC, bst_sY, bst_sE, bI_s, bI_o, bI_2, bI_bI, bC_1, bY_1, bE_1, bT, bN, bR, rf_ref, rf_va, rf_null, c1_int, c1_ref, c1_UV, rvo_n, rvo_r, c1_null, c1_va, up_s, up_o, va_rf_some, va_rf_none, litA, litB, litM, nI_add, okZ_0, okZ_1, okZ_zb, zb_0, gB_add, inb_lit, cl_lit, Nat.lt_irrefl, ↓reduceIte, if_true, if_false, RP_v, RP_n, e1, j1, j2, e2, hb, nI_1]
      rfl
    · have e1 : (5 : Int32) ≤ nI 5 := by decide
      refine (x113_198).trans ?_
      simp [x113_200, x113_201, x113_204, x113_205, x113_208, x113_209, x113_210, x113_211, x113_213, x113_214, x113_216, x113_217, x113_220, x113_223, x113_226, bst_T0, bst_T, bst_N, bst_I0, bst_I, bst_R0, bst_R, bst_B, bst_X, bst_S, bst_A, bst_sI, bst_sI0, bst_sC, bst_sY, bst_sE, bI_s, bI_o, bI_2, bI_bI, bC_1, bY_1, bE_1, bT, bN, bR, rf_ref, rf_va, rf_null, c1_int, c1_ref, c1_UV, rvo_n, rvo_r, c1_null, c1_va, up_s, up_o, va_rf_some, va_rf_none, litA, litB, litM, nI_add, okZ_0, okZ_1, okZ_zb, zb_0, gB_add, inb_lit, cl_lit, Nat.lt_irrefl, ↓reduceIte, if_true, if_false, RP_v, RP_n, e1, nI_1]
  have hl1 : XP PP (d + 6) 113 177 [.ref b, .ref z, .ref ty, .int (nI 0), v4] [] (bst G b (bI (bI s 1 (va_cpy (gI G (z + 6)) (s.1 1) 0 0 0)) 7 (blF (s.1 7) (5 * 0)))) = XP PP (d + 6) 113 231 [.ref b, .ref z, .ref ty, .int (nI 0), .int 5] [] (bst G b (bI (bI s 1 (va_cpy (gI G (z + 6)) (s.1 1) 0 0 8)) 7 (blF (s.1 7) 40))) := by
    have hstep := XP_forX (P := PP) (d := d + 6) (y := 113) (pc := 177) 8 (fun e : Value × Nat => True) (fun a e => [.ref b, .ref z, .ref ty, .int (nI a), if a = 0 then v4 else .int (nI 5)]) (fun a => bst G b (bI (bI s 1 (va_cpy (gI G (z + 6)) (s.1 1) 0 0 a)) 7 (blF (s.1 7) (5 * a))))
      (X := XP PP (d + 6) 113 231 [.ref b, .ref z, .ref ty, .int (nI 0), .int 5] [] (bst G b (bI (bI s 1 (va_cpy (gI G (z + 6)) (s.1 1) 0 0 8)) 7 (blF (s.1 7) 40)))) (by
        intro a ha e _
        refine ⟨e, trivial, ?_⟩
        have e1 : ¬ (8 : Int32) ≤ nI a := nI_ge (b := 8) ha (by omega)
        have j1 : inb (nI a) 8 = true := inb_nI (by omega) (by omega)
        have j2 : (nI a).toNatClampNeg = a := nI_clamp (by omega)
        have e2 := cpy_k (gI G (z + 6)) (s.1 1) a
        have hi := hin a ha (bI s 1 (va_cpy (gI G (z + 6)) (s.1 1) 0 0 (a + 1)))
        rw [Nat.add_zero, show nI 0 = 0 from rfl] at hi
        have e3 : ¬ a + 1 = 0 := by omega
        have e4 : 5 * (a + 1) = 5 * a + 5 := by omega
        have e5 : ∀ f g h, bI (bI (bI s 1 f) 7 g) 1 h = bI (bI s 1 h) 7 g := fun f g h => by rw [bI_c (by decide), bI_bI]
        rw [e4, if_neg e3]
        refine (x113_177).trans ?_
        simp [x113_178, x113_180, x113_183, x113_184, x113_187, x113_188, x113_189, x113_192, x113_193, x113_194, x113_195, x113_196, bst_T0, bst_T, bst_N, bst_I0, bst_I, bst_R0, bst_R, bst_B, bst_X, bst_S, bst_A, bst_sI, bst_sI0, bst_sC, bst_sY, bst_sE, bI_s, bI_o, bI_2, bI_bI, bC_1, bY_1, bE_1, bT, bN, bR, rf_ref, rf_va, rf_null, c1_int, c1_ref, c1_UV, rvo_n, rvo_r, c1_null, c1_va, up_s, up_o, va_rf_some, va_rf_none, litA, litB, litM, nI_add, okZ_0, okZ_1, okZ_zb, zb_0, gB_add, inb_lit, cl_lit, Nat.lt_irrefl, ↓reduceIte, if_true, if_false, RP_v, RP_n, t0, r5, t6, n6, i6, e1, j1, j2, e5, e2, hb]
        exact hi)
      (by
        intro e _
        have e1 : (8 : Int32) ≤ nI 8 := by decide
        refine (x113_177).trans ?_
        simp [x113_178, x113_180, x113_229, x113_230, bst_T0, bst_T, bst_N, bst_I0, bst_I, bst_R0, bst_R, bst_B, bst_X, bst_S, bst_A, bst_sI, bst_sI0, bst_sC, bst_sY, bst_sE, bI_s, bI_o, bI_2, bI_bI, bC_1, bY_1, bE_1, bT, bN, bR, rf_ref, rf_va, rf_null, c1_int, c1_ref, c1_UV, rvo_n, rvo_r, c1_null, c1_va, up_s, up_o, va_rf_some, va_rf_none, litA, litB, litM, nI_add, okZ_0, okZ_1, okZ_zb, zb_0, gB_add, inb_lit, cl_lit, Nat.lt_irrefl, ↓reduceIte, if_true, if_false, RP_v, RP_n, e1]
        rfl) 0 (Nat.zero_le _) (v4, 0) trivial
    exact hstep
  have hl2 : ∀ v4 s', XP PP (d + 6) 113 231 [.ref b, .ref z, .ref ty, .int (nI 0), v4] [] (bst G b (bI (bI s' 8 (blF (s.1 8) 0)) 9 (va_cpy (gI G (z + 5)) (s.1 9) 0 0 0))) = XP PP (d + 6) 113 261 [.ref b, .ref z, .ref ty, .int 5, v4] [] (bst G b (bI (bI s' 8 (blF (s.1 8) 5)) 9 (va_cpy (gI G (z + 5)) (s.1 9) 0 0 5))) := by
    intro v4 s'
    refine XP_for 5 (fun k => [.ref b, .ref z, .ref ty, .int (nI k), v4]) (fun k => bst G b (bI (bI s' 8 (blF (s.1 8) k)) 9 (va_cpy (gI G (z + 5)) (s.1 9) 0 0 k))) ?_ ?_ 0 (Nat.zero_le _)
    · intro k hk
      have e1 : ¬ (5 : Int32) ≤ nI k := nI_ge (b := 5) hk (by omega)
      have j1 : inb (nI k) 5 = true := inb_nI (by omega) (by omega)
      have j2 : (nI k).toNatClampNeg = k := nI_clamp (by omega)
      have e2 := blF_k (g := s.1 8) (m := k) (k := k) (by omega)
      have e3 := cpy_k (gI G (z + 5)) (s.1 9) k
      have e5 : ∀ f g h, bI (bI (bI s' 8 f) 9 g) 8 h = bI (bI s' 8 h) 9 g := fun f g h => by rw [bI_c (by decide), bI_bI]
      refine (x113_231).trans ?_
      simp [x113_232, x113_233, x113_236, x113_237, x113_240, x113_241, x113_242, x113_243, x113_244, x113_247, x113_248, x113_249, x113_252, x113_253, x113_254, x113_255, x113_258, bst_T0, bst_T, bst_N, bst_I0, bst_I, bst_R0, bst_R, bst_B, bst_X, bst_S, bst_A, bst_sI, bst_sI0, bst_sC, bst_sY, bst_sE, bI_s, bI_o, bI_2, bI_bI, bC_1, bY_1, bE_1, bT, bN, bR, rf_ref, rf_va, rf_null, c1_int, c1_ref, c1_UV, rvo_n, rvo_r, c1_null, c1_va, up_s, up_o, va_rf_some, va_rf_none, litA, litB, litM, nI_add, okZ_0, okZ_1, okZ_zb, zb_0, gB_add, inb_lit, cl_lit, Nat.lt_irrefl, ↓reduceIte, if_true, if_false, RP_v, RP_n, t0, r4, t5, n5, i5, e1, j1, j2, e2, e3, e5, hb, nI_1]
    · have e1 : (5 : Int32) ≤ nI 5 := by decide
      refine (x113_231).trans ?_
      simp [x113_232, x113_233, bst_T0, bst_T, bst_N, bst_I0, bst_I, bst_R0, bst_R, bst_B, bst_X, bst_S, bst_A, bst_sI, bst_sI0, bst_sC, bst_sY, bst_sE, bI_s, bI_o, bI_2, bI_bI, bC_1, bY_1, bE_1, bT, bN, bR, rf_ref, rf_va, rf_null, c1_int, c1_ref, c1_UV, rvo_n, rvo_r, c1_null, c1_va, up_s, up_o, va_rf_some, va_rf_none, litA, litB, litM, nI_add, okZ_0, okZ_1, okZ_zb, zb_0, gB_add, inb_lit, cl_lit, Nat.lt_irrefl, ↓reduceIte, if_true, if_false, RP_v, RP_n, e1]
      rfl
  have e0 : bI (bI s 1 (va_cpy (gI G (z + 6)) (s.1 1) 0 0 0)) 7 (blF (s.1 7) (5 * 0)) = s := by
    rw [va_cpy_0, bI_id, Nat.mul_zero, blF_0, bI_id]
  rw [e0] at hl1
  have hl2' := hl2 (.int 5) (bI (bI s 1 (va_cpy (gI G (z + 6)) (s.1 1) 0 0 8)) 7 (blF (s.1 7) 40))
  have e1 : bI (bI (bI (bI s 1 (va_cpy (gI G (z + 6)) (s.1 1) 0 0 8)) 7 (blF (s.1 7) 40)) 8 (blF (s.1 8) 0)) 9 (va_cpy (gI G (z + 5)) (s.1 9) 0 0 0) = bI (bI s 1 (va_cpy (gI G (z + 6)) (s.1 1) 0 0 8)) 7 (blF (s.1 7) 40) := by
    rw [va_cpy_0, blF_0]
    have h8 : (bI (bI s 1 (va_cpy (gI G (z + 6)) (s.1 1) 0 0 8)) 7 (blF (s.1 7) 40)).1 8 = s.1 8 := by rw [bI_o (by decide), bI_o (by decide)]
    have h9 : (bI (bI s 1 (va_cpy (gI G (z + 6)) (s.1 1) 0 0 8)) 7 (blF (s.1 7) 40)).1 9 = s.1 9 := by rw [bI_o (by decide), bI_o (by decide)]
    rw [← h8, bI_id, ← h9, bI_id]
  rw [e1] at hl2'
  have e2 : nI 0 = 0 := rfl
  rw [e2] at hl1 hl2'
  unfold bs1
  rw [← hl2', ← hl1]
  simp [x113_175, x113_176, rf_ref, rf_va, rf_null, c1_int, c1_ref, c1_UV, rvo_n, rvo_r, c1_null, c1_va, up_s, up_o, va_rf_some, va_rf_none, litA, litB, litM, nI_add, okZ_0, okZ_1, okZ_zb, zb_0, gB_add, inb_lit, cl_lit, Nat.lt_irrefl, ↓reduceIte, if_true, if_false, RP_v, RP_n, h3]
end

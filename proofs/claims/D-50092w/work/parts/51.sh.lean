/-! the component: a sheet of votes -/
/-- a bus with its sheet anew: votes, points, firsts, before -/
def shU (s : Bs) (v : Int32) (P F B : Rw) : Bs := bI (bI (bI (bI s 17 (va_up (s.1 17) 4 v)) 18 P) 19 F) 20 B
section
variable {s : Bs} {v : Int32} {P F B : Rw}
theorem shU_17 : (shU s v P F B).1 17 = va_up (s.1 17) 4 v := by unfold shU; rw [bI_o (by decide), bI_o (by decide), bI_o (by decide), bI_s]
theorem shU_18 : (shU s v P F B).1 18 = P := by unfold shU; rw [bI_o (by decide), bI_o (by decide), bI_s]
theorem shU_19 : (shU s v P F B).1 19 = F := by unfold shU; rw [bI_o (by decide), bI_s]
theorem shU_20 : (shU s v P F B).1 20 = B := bI_s
theorem shU_o {j : Nat} (h : ¬ j = 17) (h1 : ¬ j = 18) (h2 : ¬ j = 19) (h3 : ¬ j = 20) : (shU s v P F B).1 j = s.1 j := by unfold shU; rw [bI_o h3, bI_o h2, bI_o h1, bI_o h]
theorem shU_2 : (shU s v P F B).2 = s.2 := id rfl
theorem va_up_up {f : Rw} {k : Nat} {x y : Int32} : va_up (va_up f k x) k y = va_up f k y := by funext j; unfold va_up; by_cases e : j = k <;> simp [e]
theorem va_up_id {f : Rw} {k : Nat} : va_up f k (f k) = f := by funext j; unfold va_up; by_cases e : j = k <;> simp [e]
theorem shU_w17 {x : Int32} : bI (shU s v P F B) 17 (va_up (s.1 17) 4 x) = shU s x P F B := by
  unfold shU
  rw [bI_c (i := 20) (j := 17) (by decide), bI_c (i := 19) (j := 17) (by decide), bI_c (i := 18) (j := 17) (by decide), bI_bI]
theorem shU_w18 {f : Rw} : bI (shU s v P F B) 18 f = shU s v f F B := by
  unfold shU
  rw [bI_c (i := 20) (j := 18) (by decide), bI_c (i := 19) (j := 18) (by decide), bI_bI]
theorem shU_w19 {f : Rw} : bI (shU s v P F B) 19 f = shU s v P f B := by
  unfold shU
  rw [bI_c (i := 20) (j := 19) (by decide), bI_bI]
theorem shU_w20 {f : Rw} : bI (shU s v P F B) 20 f = shU s v P F f := by
  unfold shU
  rw [bI_bI]
theorem shU_id : shU s (s.1 17 4) (s.1 18) (s.1 19) (s.1 20) = s := by
  unfold shU
  rw [va_up_id, bI_id, bI_id, bI_id, bI_id]
theorem shU_shU {v' : Int32} {P' F' B' : Rw} : shU (shU s v P F B) v' P' F' B' = shU s v' P' F' B' := by
  show bI (bI (bI (bI (shU s v P F B) 17 (va_up ((shU s v P F B).1 17) 4 v')) 18 P') 19 F') 20 B' = _
  rw [shU_17, va_up_up, shU_w17, shU_w18, shU_w19, shU_w20]
end
section
variable {d b : Nat} {G : Hp} {s : Bs}
set_option maxHeartbeats 4000000
set_option maxRecDepth 20000
/-- zeros from 0 on -/
def zrF (f : Rw) (n : Nat) : Rw := fun k => if k < n then 0 else f k
theorem zrF_0 {f : Rw} : zrF f 0 = f := by funext k; unfold zrF; rw [if_neg (by omega)]
theorem zrF_k {f : Rw} {n : Nat} : va_up (zrF f n) n 0 = zrF f (n + 1) := by
  funext k; unfold va_up zrF
  by_cases e : k = n
  · rw [if_pos e, if_pos (by omega)]
  · by_cases e2 : k < n
    · rw [if_neg e, if_pos e2, if_pos (by omega)]
    · rw [if_neg e, if_neg e2, if_neg (by omega)]
theorem s_shClear (hb : gB G ≤ b) : XP PP d 139 0 [.ref (b + 17), UV] [] (bst G b s) = some (.inl (none), bst G b (shU s 0 (zrF (s.1 18) 5) (zrF (s.1 19) 25) (zrF (s.1 20) 25))) := by
  have hl : XP PP d 139 7 [.ref (b + 17), .int 0] [] (bst G b (shU s 0 (zrF (s.1 18) 0) (s.1 19) (s.1 20))) = XP PP d 139 25 [.ref (b + 17), .int 5] [] (bst G b (shU s 0 (zrF (s.1 18) 5) (s.1 19) (s.1 20))) := by
    refine XP_for 5 (fun p => [.ref (b + 17), .int (nI p)]) (fun p => bst G b (shU s 0 (zrF (s.1 18) p) (s.1 19) (s.1 20))) ?_ ?_ 0 (Nat.zero_le _)
    · intro p hp
      have e1 : ¬ (5 : Int32) ≤ nI p := nI_ge (b := 5) hp (by omega)
      have i1 : inb (nI p) 5 = true := inb_nI (by omega) (by omega)
      have i2 : (nI p).toNatClampNeg = p := nI_clamp (by omega)
      refine Eq.trans (by first | exact x139_7 | exact x139_7 (rf_ref _) | exact x139_7 rfl) ?_
      simp [x139_0, x139_1, x139_2, x139_5, x139_6, x139_8, x139_9, x139_12, x139_13, x139_16, x139_17, x139_18, x139_19, x139_22, x139_25, x139_26, x139_28, x139_30, x139_33, x139_34, x139_37, x139_38, x139_39, x139_40, x139_41, x139_44, x139_45, x139_46, x139_47, x139_50, x139_53, bst_T0, bst_T, bst_N, bst_I0, bst_I, bst_R0, bst_R, bst_B, bst_X, bst_S, bst_A, bst_sI, bst_sI0, bst_sC, bst_sY, bst_sE, bI_s, bI_o, bI_2, bI_bI, bC_1, bY_1, bE_1, bT, bN, bR, rf_ref, rf_va, rf_null, c1_int, c1_ref, c1_UV, rvo_n, rvo_r, c1_null, c1_va, up_s, up_o, va_rf_some, va_rf_none, litA, litB, litM, nI_add, okZ_0, okZ_1, okZ_zb, zb_0, gB_add, inb_lit, cl_lit, Nat.lt_irrefl, ↓reduceIte, if_true, if_false, RP_v, RP_n, shU_17, shU_18, shU_19, shU_20, shU_o, shU_2, shU_w17, shU_w18, shU_w19, shU_w20, va_up_up, e1, i1, i2, hb, zrF_k, nI_1]
    · have e1 : (5 : Int32) ≤ nI 5 := by decide
      refine Eq.trans (by first | exact x139_7 | exact x139_7 (rf_ref _) | exact x139_7 rfl) ?_
      simp [x139_8, x139_9, x139_12, x139_13, x139_16, x139_17, x139_18, x139_19, x139_22, bst_T0, bst_T, bst_N, bst_I0, bst_I, bst_R0, bst_R, bst_B, bst_X, bst_S, bst_A, bst_sI, bst_sI0, bst_sC, bst_sY, bst_sE, bI_s, bI_o, bI_2, bI_bI, bC_1, bY_1, bE_1, bT, bN, bR, rf_ref, rf_va, rf_null, c1_int, c1_ref, c1_UV, rvo_n, rvo_r, c1_null, c1_va, up_s, up_o, va_rf_some, va_rf_none, litA, litB, litM, nI_add, okZ_0, okZ_1, okZ_zb, zb_0, gB_add, inb_lit, cl_lit, Nat.lt_irrefl, ↓reduceIte, if_true, if_false, RP_v, RP_n, e1]
      rfl
  have hl2 : XP PP d 139 27 [.ref (b + 17), .int 0] [] (bst G b (shU s 0 (zrF (s.1 18) 5) (zrF (s.1 19) 0) (zrF (s.1 20) 0))) = some (.inl none, bst G b (shU s 0 (zrF (s.1 18) 5) (zrF (s.1 19) 25) (zrF (s.1 20) 25))) := by
    refine XP_for 25 (fun p => [.ref (b + 17), .int (nI p)]) (fun p => bst G b (shU s 0 (zrF (s.1 18) 5) (zrF (s.1 19) p) (zrF (s.1 20) p))) ?_ ?_ 0 (Nat.zero_le _)
    · intro p hp
      have e1 : ¬ (25 : Int32) ≤ nI p := nI_ge (b := 25) hp (by omega)
      have i1 : inb (nI p) 25 = true := inb_nI (by omega) (by omega)
      have i2 : (nI p).toNatClampNeg = p := nI_clamp (by omega)
      refine Eq.trans (by first | exact x139_27 | exact x139_27 (rf_ref _) | exact x139_27 rfl) ?_
      simp [x139_0, x139_1, x139_2, x139_5, x139_6, x139_8, x139_9, x139_12, x139_13, x139_16, x139_17, x139_18, x139_19, x139_22, x139_25, x139_26, x139_28, x139_30, x139_33, x139_34, x139_37, x139_38, x139_39, x139_40, x139_41, x139_44, x139_45, x139_46, x139_47, x139_50, x139_53, bst_T0, bst_T, bst_N, bst_I0, bst_I, bst_R0, bst_R, bst_B, bst_X, bst_S, bst_A, bst_sI, bst_sI0, bst_sC, bst_sY, bst_sE, bI_s, bI_o, bI_2, bI_bI, bC_1, bY_1, bE_1, bT, bN, bR, rf_ref, rf_va, rf_null, c1_int, c1_ref, c1_UV, rvo_n, rvo_r, c1_null, c1_va, up_s, up_o, va_rf_some, va_rf_none, litA, litB, litM, nI_add, okZ_0, okZ_1, okZ_zb, zb_0, gB_add, inb_lit, cl_lit, Nat.lt_irrefl, ↓reduceIte, if_true, if_false, RP_v, RP_n, shU_17, shU_18, shU_19, shU_20, shU_o, shU_2, shU_w17, shU_w18, shU_w19, shU_w20, va_up_up, e1, i1, i2, hb, zrF_k, nI_1]
    · have e1 : (25 : Int32) ≤ nI 25 := by decide
      refine Eq.trans (by first | exact x139_27 | exact x139_27 (rf_ref _) | exact x139_27 rfl) ?_
      simp [x139_28, x139_30, x139_33, x139_34, x139_37, x139_38, x139_39, x139_40, x139_41, x139_44, x139_45, x139_46, x139_47, x139_50, x139_53, bst_T0, bst_T, bst_N, bst_I0, bst_I, bst_R0, bst_R, bst_B, bst_X, bst_S, bst_A, bst_sI, bst_sI0, bst_sC, bst_sY, bst_sE, bI_s, bI_o, bI_2, bI_bI, bC_1, bY_1, bE_1, bT, bN, bR, rf_ref, rf_va, rf_null, c1_int, c1_ref, c1_UV, rvo_n, rvo_r, c1_null, c1_va, up_s, up_o, va_rf_some, va_rf_none, litA, litB, litM, nI_add, okZ_0, okZ_1, okZ_zb, zb_0, gB_add, inb_lit, cl_lit, Nat.lt_irrefl, ↓reduceIte, if_true, if_false, RP_v, RP_n, e1]
  rw [zrF_0] at hl hl2
  rw [zrF_0] at hl2
  have e0 : bst G b (bI s 17 (va_up (s.1 17) 4 0)) = bst G b (shU s 0 (s.1 18) (s.1 19) (s.1 20)) := by
    congr 1
    have := shU_id (s := bI s 17 (va_up (s.1 17) 4 0))
    rw [← this]
    rw [bI_s, bI_o (by decide), bI_o (by decide), bI_o (by decide), up_s]
    unfold shU
    rw [bI_s, bI_bI, va_up_up]
  simp [x139_0, x139_1, x139_2, x139_5, x139_6, x139_25, x139_26, bst_T0, bst_T, bst_N, bst_I0, bst_I, bst_R0, bst_R, bst_B, bst_X, bst_S, bst_A, bst_sI, bst_sI0, bst_sC, bst_sY, bst_sE, bI_s, bI_o, bI_2, bI_bI, bC_1, bY_1, bE_1, bT, bN, bR, rf_ref, rf_va, rf_null, c1_int, c1_ref, c1_UV, rvo_n, rvo_r, c1_null, c1_va, up_s, up_o, va_rf_some, va_rf_none, litA, litB, litM, nI_add, okZ_0, okZ_1, okZ_zb, zb_0, gB_add, inb_lit, cl_lit, Nat.lt_irrefl, ↓reduceIte, if_true, if_false, RP_v, RP_n, hb, e0, hl, hl2]
end

/-! the component: a bus is made: its cells -/
theorem s_suClassesG {d z K A : Nat} {G : Hp} {c w : Rw} (hS : SU G z c w K A) : XP PP (d + 1) 110 0 [.ref z] [] G = some (.inl (some (.int (nI K))), G) := by
  obtain ⟨zT, zR0, zR1, zR2, zR3, zR4, zR5, zR6, zT1, zT2, zT5, zT6, zT7, zN5, zN6, zN7, zK, zA, zW, zc3, zc4, zc5, zc6, zc7⟩ := hS
  simp [x110_0, x110_1, x110_4, x110_7, rf_ref, rf_va, rf_null, c1_int, c1_ref, c1_UV, rvo_n, rvo_r, c1_null, c1_va, up_s, up_o, va_rf_some, va_rf_none, litA, litB, litM, nI_add, okZ_0, okZ_1, okZ_zb, zb_0, gB_add, inb_lit, cl_lit, Nat.lt_irrefl, ↓reduceIte, if_true, if_false, RP_v, RP_n, zT, zR0, zT1, s_tmSize zT1 zK]
theorem s_suAskersG {d z K A : Nat} {G : Hp} {c w : Rw} (hS : SU G z c w K A) : XP PP (d + 1) 112 0 [.ref z] [] G = some (.inl (some (.int (nI A))), G) := by
  obtain ⟨zT, zR0, zR1, zR2, zR3, zR4, zR5, zR6, zT1, zT2, zT5, zT6, zT7, zN5, zN6, zN7, zK, zA, zW, zc3, zc4, zc5, zc6, zc7⟩ := hS
  simp [x112_0, x112_1, x112_4, x112_7, rf_ref, rf_va, rf_null, c1_int, c1_ref, c1_UV, rvo_n, rvo_r, c1_null, c1_va, up_s, up_o, va_rf_some, va_rf_none, litA, litB, litM, nI_add, okZ_0, okZ_1, okZ_zb, zb_0, gB_add, inb_lit, cl_lit, Nat.lt_irrefl, ↓reduceIte, if_true, if_false, RP_v, RP_n, zT, zR1, zT2, s_tmSize zT2 zA]
section
variable {d b z K A ty S : Nat} {G : Hp} {c w : Rw} {U : IF} {V : RF}
set_option maxHeartbeats 8000000
set_option maxRecDepth 20000
theorem s_alInit {n : Nat} (h : gT G n = 13) (hb : gB G ≤ n) : XP PP (d + 2) 313 0 [.ref n] [] (G) = some (.inl (none), sR (sI G n 0 0) n 1 (some (gA G 23))) := by
  simp [x313_0, x313_1, x313_4, x313_5, x313_8, x313_11, x312_0, x312_1, x312_4, x312_5, x312_6, x312_9, x311_0, x311_1, x311_4, rf_ref, rf_va, rf_null, c1_int, c1_ref, c1_UV, rvo_n, rvo_r, c1_null, c1_va, up_s, up_o, va_rf_some, va_rf_none, litA, litB, litM, nI_add, okZ_0, okZ_1, okZ_zb, zb_0, gB_add, inb_lit, cl_lit, Nat.lt_irrefl, ↓reduceIte, if_true, if_false, RP_v, RP_n, nv_A, nv_B, nv_S, nv_X, sI_A, sI_B, sI_J, sI_N, sI_R, sI_S, sI_T, sI_X, sIr_A, sIr_B, sIr_J, sIr_N, sIr_R, sIr_S, sIr_T, sIr_X, sJ_A, sJ_B, sJ_I, sJ_N, sJ_R, sJ_S, sJ_T, sJ_X, sR_A, sR_B, sR_I, sR_J, sR_N, sR_S, sR_T, sR_X, sRr_A, sRr_B, sRr_I, sRr_J, sRr_N, sRr_S, sRr_T, sRr_X, h, hb]
theorem s_shInit {n : Nat} {k : Int32} (hb : gB G ≤ b) (hn : n = 18) : XP PP d 138 0 [.ref (b + 17), .int k] [] (ub bT bN G b n S U V) = some (.inl (none), ub bT bN G b 21 (S + 55) (up2 (upr (upr (upr U 18 (fun _ => 0)) 19 (fun _ => 0)) 20 (fun _ => 0)) 17 3 k) (up2 (upr (up2 (upr (up2 (upr V 18 (fun _ => none)) 17 0 (some (b + 18))) 19 (fun _ => none)) 17 1 (some (b + 19))) 20 (fun _ => none)) 17 2 (some (b + 20)))) := by
  subst hn
  simp [x138_0, x138_1, x138_4, x138_5, x138_6, x138_8, x138_11, x138_12, x138_14, x138_16, x138_19, x138_20, x138_22, x138_24, x138_27, x138_28, x138_29, x138_32, rf_ref, rf_va, rf_null, c1_int, c1_ref, c1_UV, rvo_n, rvo_r, c1_null, c1_va, up_s, up_o, va_rf_some, va_rf_none, litA, litB, litM, nI_add, okZ_0, okZ_1, okZ_zb, zb_0, gB_add, inb_lit, cl_lit, Nat.lt_irrefl, ↓reduceIte, if_true, if_false, RP_v, RP_n, ub_T, ub_N, ub_I, ub_R, ub_T0, ub_N0, ub_I0, ub_R0, ub_B, ub_A, ub_X, ub_S, ub_nw, ub_sR, ub_sI, ub_sR0, ub_sI0, upr_0, bT, bN, hb, Nat.add_assoc]
/-- a heap with n cells more at its end, of which nothing is said -/
def adv (G : Hp) (b n S : Nat) : Hp := (G.1, G.2.1, G.2.2.1, (fun a k => if inU b n a = true then 0 else G.2.2.2.1 a k), G.2.2.2.2.1, b + n, S, G.2.2.2.2.2.2.2)
theorem ub_bst {s : Bs} (hU : ∀ j, j < 21 → ∀ k, U j k = s.1 j k) (hV : ∀ j, j < 21 → ∀ k, V j k = bR (gA G) b s j k) : ub bT bN G b 21 S U V = bst (adv G b 21 S) b s := by
  have hx : ∀ a, inU b 21 a = inB b a := fun a => rfl
  unfold ub bst adv
  refine Prod.ext rfl (Prod.ext rfl (Prod.ext (funext fun a => funext fun k => ?_) (Prod.ext rfl (Prod.ext (funext fun a => funext fun k => ?_) rfl))))
  · show (if inU b 21 a = true then _ else _) = if inB b a = true then _ else _
    rw [hx]
    by_cases h : inB b a = true
    · rw [if_pos h, if_pos h]
      unfold inB at h
      simp only [Bool.and_eq_true, decide_eq_true_eq] at h
      exact hU _ (by omega) k
    · rw [if_neg h, if_neg h]
  · show (if inU b 21 a = true then _ else _) = if inB b a = true then _ else _
    rw [hx]
    by_cases h : inB b a = true
    · rw [if_pos h, if_pos h]
      unfold inB at h
      simp only [Bool.and_eq_true, decide_eq_true_eq] at h
      exact hV _ (by omega) k
    · rw [if_neg h, if_neg h]
theorem bR_hi {A : Nat → Nat} {b k : Nat} {s : Bs} (h : 18 ≤ k) : bR A b s 0 k = none := by
  obtain ⟨k', rfl⟩ : ∃ k', k = k' + 18 := ⟨k - 18, by omega⟩
  rfl
theorem bR_lo {A : Nat → Nat} {b j k : Nat} {s : Bs} (h : 0 < j) : bR A b s j k = if j = 13 then (if k = 1 then some s.2.2.2.2 else none) else if j = 14 then (if k = 3 then some (b + 16) else if k = 2 then some (b + 15) else if k = 1 then some (A 328) else if k = 0 then some (A 327) else none)
    else if j = 15 ∨ j = 16 then (if k = 0 then some b else none) else if j = 17 then (if k = 2 then some (b + 20) else if k = 1 then some (b + 19) else if k = 0 then some (b + 18) else none) else none := by
  unfold bR
  split
  · omega
  · split <;> simp_all
  · split <;> simp_all
  · split <;> simp_all
  · split <;> simp_all
  · split <;> simp_all
  · simp_all
/-- the bus at its making -/
def bs0 (G : Hp) (z ty : Nat) (k : Int32) : Bs := (up2 (fun _ _ => 0) 17 3 k, z, ty, none, gA G 23)
theorem s_ctor1 (hb : gB G ≤ b) (hz : z + 8 ≤ b) (hS : SU G z c w K A) (hL : CLM G) :
    XP PP (d + 6) 113 0 [.ref b, .ref z, .ref ty, UV, UV] [] (ub bT bN G b 1 S (fun _ _ => 0) (fun _ _ => none)) = XP PP (d + 6) 113 175 [.ref b, .ref z, .ref ty, UV, UV] [] (bst (adv G b 21 (S + 537)) b (bs0 G z ty (nI K))) := by
  have o1 : ∀ n, inU b n (gA G 327) = false := fun n => inU_f.mpr (Or.inl (by have := hL.1; omega))
  have o2 : ∀ n, inU b n (gA G 328) = false := fun n => inU_f.mpr (Or.inl (by have := hL.2.2.1; omega))
  have oz : ∀ n, inU b n z = false := fun n => inU_f.mpr (Or.inl (by omega))
  have hSU : ∀ n S' U V, SU (ub bT bN G b n S' U V) z c w K A := fun n S' U V => hS.same fun j hj => by
    have h : inU b n (z + j) = false := inU_f.mpr (Or.inl (by omega))
    exact ⟨ub_Tr h, ub_Nr h, fun _ => ub_Ir h, fun _ => ub_Jr h, fun _ => ub_Rr h⟩
  have sK := fun d n S' U V => s_suClassesG (d := d) (hSU n S' U V)
  have zT : ∀ n S' U V, gT (ub bT bN G b n S' U V) z = 5 := fun n S' U V => (hSU n S' U V).1
  have sI13 := fun d n S' U V (h : 13 < n) => s_alInit (d := d) (G := ub bT bN G b n S' U V) (n := b + 13) ((ub_T h).trans rfl) (by rw [ub_B]; omega)
  simp only [ub_sR, ub_sI, ub_A] at sI13
  have sSh := fun d S' U V n (hn : n = 18) k => s_shInit (d := d) (S := S') (U := U) (V := V) (k := k) hb hn
  have k27 : okA 111 27 = true := rfl
  have k28 : okA 111 28 = true := rfl
  have k29 : okA 111 29 = true := rfl
  have k30 : okA 111 30 = true := rfl
  simp [x113_0, x113_1, x113_4, x113_5, x113_7, x113_9, x113_12, x113_13, x113_15, x113_17, x113_20, x113_21, x113_23, x113_25, x113_28, x113_29, x113_31, x113_33, x113_36, x113_37, x113_39, x113_41, x113_44, x113_45, x113_47, x113_49, x113_52, x113_53, x113_55, x113_57, x113_60, x113_61, x113_62, x113_64, x113_67, x113_68, x113_69, x113_71, x113_74, x113_75, x113_76, x113_78, x113_81, x113_82, x113_83, x113_85, x113_88, x113_89, x113_92, x113_94, x113_97, x113_98, x113_101, x113_102, x113_105, x113_108, x113_109, x113_110, x113_113, x113_114, x113_115, x113_120, x113_120n, x113_121, x113_122, x113_123, x113_128, x113_128n, x113_129, x113_130, x113_131, x113_132, x113_137, x113_137n, x113_138, x113_139, x113_140, x113_141, x113_146, x113_146n, x113_147, x113_150, x113_151, x113_152, x113_155, x113_156, x113_157, x113_160, x113_161, x113_164, x113_165, x113_166, x113_169, x113_172, rf_ref, rf_va, rf_null, c1_int, c1_ref, c1_UV, rvo_n, rvo_r, c1_null, c1_va, up_s, up_o, va_rf_some, va_rf_none, litA, litB, litM, nI_add, okZ_0, okZ_1, okZ_zb, zb_0, gB_add, inb_lit, cl_lit, Nat.lt_irrefl, ↓reduceIte, if_true, if_false, RP_v, RP_n, ub_T, ub_N, ub_I, ub_R, ub_T0, ub_N0, ub_I0, ub_R0, ub_B, ub_A, ub_X, ub_S, ub_nw, ub_sR, ub_sI, ub_sR0, ub_sI0, upr_0, bT, bN, k27, k28, k29, k30, hb, zT, sK, sSh, s_alInit, ub_Tr, o1, o2, hL.2.1, hL.2.2.2, Nat.add_assoc]
  rw [ub_bst (s := bs0 G z ty (nI K)) ?_ ?_]
  · intro j hj k
    rcases (by omega : j = 0 ∨ j = 1 ∨ j = 2 ∨ j = 3 ∨ j = 4 ∨ j = 5 ∨ j = 6 ∨ j = 7 ∨ j = 8 ∨ j = 9 ∨ j = 10 ∨ j = 11 ∨ j = 12 ∨ j = 13 ∨ j = 14 ∨ j = 15 ∨ j = 16 ∨ j = 17 ∨ j = 18 ∨ j = 19 ∨ j = 20) with rfl | rfl | rfl | rfl | rfl | rfl | rfl | rfl | rfl | rfl | rfl | rfl | rfl | rfl | rfl | rfl | rfl | rfl | rfl | rfl | rfl <;> simp [up2, upr, bs0]
  · intro j hj k
    rcases (by omega : j = 0 ∨ j = 1 ∨ j = 2 ∨ j = 3 ∨ j = 4 ∨ j = 5 ∨ j = 6 ∨ j = 7 ∨ j = 8 ∨ j = 9 ∨ j = 10 ∨ j = 11 ∨ j = 12 ∨ j = 13 ∨ j = 14 ∨ j = 15 ∨ j = 16 ∨ j = 17 ∨ j = 18 ∨ j = 19 ∨ j = 20) with rfl | rfl | rfl | rfl | rfl | rfl | rfl | rfl | rfl | rfl | rfl | rfl | rfl | rfl | rfl | rfl | rfl | rfl | rfl | rfl | rfl
    · rcases (by omega : k = 0 ∨ k = 1 ∨ k = 2 ∨ k = 3 ∨ k = 4 ∨ k = 5 ∨ k = 6 ∨ k = 7 ∨ k = 8 ∨ k = 9 ∨ k = 10 ∨ k = 11 ∨ k = 12 ∨ k = 13 ∨ k = 14 ∨ k = 15 ∨ k = 16 ∨ k = 17 ∨ 18 ≤ k) with rfl | rfl | rfl | rfl | rfl | rfl | rfl | rfl | rfl | rfl | rfl | rfl | rfl | rfl | rfl | rfl | rfl | rfl | hk
      all_goals first | (simp [up2, upr, bR, bs0]; done) | skip
      have hn : ∀ i, i < 18 → ¬ k = i := fun i hi => by omega
      rw [bR_hi hk]
      simp [up2, upr, hn]
    all_goals rw [bR_lo (by omega)]
    all_goals simp [up2, upr, bs0]
end

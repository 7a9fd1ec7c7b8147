/-! the twin: changes, one by one -/
/-- the world behind a change: the row r, the outcome T -/
def chF (u : Mu) (m : Nat) (r T : Rw) : Mu := uR (uR (uR (uR (uR u 0 (va_up (va_up (u.1 0) 0 0) 17 (nI (if m = 8 then 8 else m + 1)))) 4 r) 6 (u.1 4)) 9 (hsF (u.1 9) m (u.1 4))) 10 T
/-- what of the object's fields matters to a row's tick -/
def ceq (c c' : Rw) : Prop := c 3 = c' 3 ∧ c 4 = c' 4 ∧ c 7 = c' 7 ∧ c 19 = c' 19
theorem cnB_c {c c' r : Rw} (h : ceq c c') : cnB c r = cnB c' r := by
  funext a
  unfold cnB
  rw [h.2.2.1, h.2.2.2]
theorem pts_c {c c' w r : Rw} {K A : Nat} (h : ceq c c') : pts c w r K A = pts c' w r K A := by funext k; unfold pts; rw [cnB_c h]
theorem fis_c {c c' w r : Rw} {A : Nat} (h : ceq c c') : fis c w r A = fis c' w r A := by funext k p; unfold fis; rw [cnB_c h]
theorem led_c {c c' w r : Rw} {A : Nat} (h : ceq c c') : led c w r A = led c' w r A := by funext k p; unfold led; rw [cnB_c h]
theorem bts_c {c c' w r : Rw} {A : Nat} (h : ceq c c') : bts c w r A = bts c' w r A := by funext k p; unfold bts; rw [led_c h]
theorem wns_c {c c' w r : Rw} {K A : Nat} (h : ceq c c') : wns c w r K A = wns c' w r K A := by funext k; unfold wns; rw [bts_c h]
theorem btr_c {c c' w r : Rw} {K A : Nat} {t : Int32} (h : ceq c c') : btr c w r K A t = btr c' w r K A t := by funext k l; unfold btr; rw [fis_c h, wns_c h, pts_c h]
theorem rnk_c {c c' w r : Rw} {K A k m : Nat} {t : Int32} (h : ceq c c') : rnk c w r K A t k m = rnk c' w r K A t k m := by unfold rnk; rw [btr_c h]
theorem tlF_c {c c' w r f : Rw} {K A m : Nat} {t : Int32} (h : ceq c c') : tlF c w r f K A t m = tlF c' w r f K A t m := by
  induction m with
  | zero => rfl
  | succ m ih => rw [tlF, tlF, ih, cnB_c h, rnk_c h]
theorem tkR_c {c c' w r : Rw} {K A : Nat} (h : ceq c c') : tkR c w K A r = tkR c' w K A r := by
  unfold tkR tickF tk1 tk2
  rw [tlF_c h, h.1, h.2.1]
theorem itR_c {c c' w r : Rw} {K A m : Nat} (h : ceq c c') : itR c w K A m r = itR c' w K A m r := by
  induction m with
  | zero => rfl
  | succ m ih => rw [itR, itR, ih, tkR_c h]
theorem ceq_0 {c : Rw} {x : Int32} : ceq (va_up c 0 x) c := ⟨up_o (by omega), up_o (by omega), up_o (by omega), up_o (by omega)⟩
section
variable {d o : Nat} {G : Hp} {u : Mu}
set_option maxHeartbeats 4000000
theorem irB_nn {x hi : Int32} {lo : Nat} (hlo : lo < 2 ^ 31) (h : irB x (nI lo) hi = true) : ∃ k, k < 2 ^ 31 ∧ lo ≤ k ∧ x = nI k := by
  unfold irB at h
  simp only [Bool.and_eq_true, decide_eq_true_eq] at h
  have h0 : ¬ x < 0 := by
    intro z
    have := Int32.lt_of_le_of_lt h.1 z
    exact nI_nn hlo this
  obtain ⟨k, hk, e⟩ := nI_of h0
  refine ⟨k, hk, ?_, e⟩
  rw [e] at h
  exact (nI_leI hlo hk).mp h.1
/-- starts, a change of the row (and of the outcome), done -/
theorem ch_done {v : Int32} {m : Nat} {r T : Rw} (hb : gB G ≤ o) (hm : u.1 0 17 = nI m) (h8 : m ≤ 8) :
    XP PP d 186 0 [.ref o, .int v, UV] [] (mst G o (uR (uR (uR (uT u 0) 4 r) 6 (u.1 4)) 10 T)) = some (.inl (some (.int v)), mst G o (chF u m r T)) := by
  have := s_done (d := d) (G := G) (o := o) (u := uR (uR (uR (uT u 0) 4 r) 6 (u.1 4)) 10 T) (v := v) (m := m) hb (by simp [rf_ref, c1_int, c1_ref, c1_UV, mst_T0, mst_I0, mst_R0, mst_J0, mst_T, mst_N, mst_I, mst_J, mst_B, mst_sI, mst_sI0, mst_sJ, mst_sJ0, uR_s, uR_o, uR_2, uR_uR, uL_s, uL_o, uL_1, up_s, up_o, mT, mN, mR, va_rf_some, litA, litB, litM, nI_add, okZ_0, okZ_1, okZ_zb, zb_0, gB_add, inb_lit, cl_lit, Nat.lt_irrefl, ↓reduceIte, if_true, if_false, RP_v, RP_n, uT]; exact hm) h8
  rw [this]
  unfold chF
  simp [rf_ref, c1_int, c1_ref, c1_UV, mst_T0, mst_I0, mst_R0, mst_J0, mst_T, mst_N, mst_I, mst_J, mst_B, mst_sI, mst_sI0, mst_sJ, mst_sJ0, uR_s, uR_o, uR_2, uR_uR, uL_s, uL_o, uL_1, up_s, up_o, mT, mN, mR, va_rf_some, litA, litB, litM, nI_add, okZ_0, okZ_1, okZ_zb, zb_0, gB_add, inb_lit, cl_lit, Nat.lt_irrefl, ↓reduceIte, if_true, if_false, RP_v, RP_n, uT, uc1_0, uc4_0, uc4_1, uc5_0, uc5_1, uc5_4, uc6_0, uc6_1, uc6_4, uc6_5, uc7_0, uc7_1, uc7_4, uc7_5, uc7_6, uc8_0, uc8_1, uc8_4, uc8_5, uc8_6, uc8_7, uc9_0, uc9_1, uc9_4, uc9_5, uc9_6, uc9_7, uc9_8, uc10_0, uc10_1, uc10_4, uc10_5, uc10_6, uc10_7, uc10_8, uc10_9, uc11_0, uc11_1, uc11_4, uc11_5, uc11_6, uc11_7, uc11_8, uc11_9, uc11_10, uc12_0, uc12_1, uc12_4, uc12_5, uc12_6, uc12_7, uc12_8, uc12_9, uc12_10, uc12_11, uc13_0, uc13_1, uc13_4, uc13_5, uc13_6, uc13_7, uc13_8, uc13_9, uc13_10, uc13_11, uc13_12, uc14_0, uc14_1, uc14_4, uc14_5, uc14_6, uc14_7, uc14_8, uc14_9, uc14_10, uc14_11, uc14_12, uc14_13, uc17_0, uc17_1, uc17_4, uc17_5, uc17_6, uc17_7, uc17_8, uc17_9, uc17_10, uc17_11, uc17_12, uc17_13, uc17_14]
theorem s_run0 {x : Int32} (hb : gB G ≤ o) (h : irB x 1 500 = false) : XP PP (d + 10) 152 0 [.ref o, .int x] [] (mst G o u) = some (.inl (some (.int 0)), mst G o (uT u 1)) := by
  simp [x152_0, x152_1, x152_2, x152_5, x152_8, x152_11, x152_12, x152_13, x152_14, x152_17, x152_18, x152_19, x152_20, x152_21, x152_24, x152_27, rf_ref, c1_int, c1_ref, c1_UV, mst_T0, mst_I0, mst_R0, mst_J0, mst_T, mst_N, mst_I, mst_J, mst_B, mst_sI, mst_sI0, mst_sJ, mst_sJ0, uR_s, uR_o, uR_2, uR_uR, uL_s, uL_o, uL_1, up_s, up_o, mT, mN, mR, va_rf_some, litA, litB, litM, nI_add, okZ_0, okZ_1, okZ_zb, zb_0, gB_add, inb_lit, cl_lit, Nat.lt_irrefl, ↓reduceIte, if_true, if_false, RP_v, RP_n, s_areTicks', zb_f h, s_is0 hb]
theorem s_run {x : Int32} {K A m : Nat} (hb : gB G ≤ o) (hC : CF (u.1 0) K A) (hr : RJ (u.1 4) K A) (hz : WZ u) (hm : u.1 0 17 = nI m) (h8 : m ≤ 8) (h : irB x 1 500 = true) :
    ∃ T, XP PP (d + 10) 152 0 [.ref o, .int x] [] (mst G o u) = some (.inl (some (.int (aoF (itR (u.1 0) (u.1 1) K A (cl x) (u.1 4)) none - aoF (u.1 4) none))), mst G o (chF u m (itR (u.1 0) (u.1 1) K A (cl x) (u.1 4)) T)) := by
  obtain ⟨k, hk, -, rfl⟩ := irB_nn (lo := 1) (by omega) h
  have hck : cl (nI k) = k := nI_clamp hk
  rw [hck]
  have st := fun d => s_starts (d := d) (G := G) (o := o) (u := uT u 0) hb (fun j a b => by rw [uT_o (by omega)]; exact hz j a b)
  obtain ⟨T, sg⟩ := s_goesOn (d := d) (G := G) (o := o) (u := uR (uT u 0) 6 (u.1 4)) (K := K) (A := A) (m := k) (a := none) hb (by rw [uR_o (by decide), uT_0]; exact hC) (by rw [uR_o (by decide), uT_o (by decide)]; exact hr) (fun k h => by cases h) hk
  have e0 : itR (va_up (u.1 0) 0 0) (u.1 1) K A k (u.1 4) = itR (u.1 0) (u.1 1) K A k (u.1 4) := itR_c ceq_0
  refine ⟨T, ?_⟩
  have sd := fun d => ch_done (d := d) (G := G) (o := o) (u := u) (v := aoF (itR (u.1 0) (u.1 1) K A k (u.1 4)) none - aoF (u.1 4) none) (m := m) (r := itR (u.1 0) (u.1 1) K A k (u.1 4)) (T := T) hb hm h8
  simp [rf_ref, c1_int, c1_ref, c1_UV, mst_T0, mst_I0, mst_R0, mst_J0, mst_T, mst_N, mst_I, mst_J, mst_B, mst_sI, mst_sI0, mst_sJ, mst_sJ0, uR_s, uR_o, uR_2, uR_uR, uL_s, uL_o, uL_1, up_s, up_o, mT, mN, mR, va_rf_some, litA, litB, litM, nI_add, okZ_0, okZ_1, okZ_zb, zb_0, gB_add, inb_lit, cl_lit, Nat.lt_irrefl, ↓reduceIte, if_true, if_false, RP_v, RP_n, s_is1, s_is0, s_may1, s_may0, uT_0, uT_o, uT_2, uT_T, uc1_0, uc4_0, uc4_1, uc5_0, uc5_1, uc5_4, uc6_0, uc6_1, uc6_4, uc6_5, uc7_0, uc7_1, uc7_4, uc7_5, uc7_6, uc8_0, uc8_1, uc8_4, uc8_5, uc8_6, uc8_7, uc9_0, uc9_1, uc9_4, uc9_5, uc9_6, uc9_7, uc9_8, uc10_0, uc10_1, uc10_4, uc10_5, uc10_6, uc10_7, uc10_8, uc10_9, uc11_0, uc11_1, uc11_4, uc11_5, uc11_6, uc11_7, uc11_8, uc11_9, uc11_10, uc12_0, uc12_1, uc12_4, uc12_5, uc12_6, uc12_7, uc12_8, uc12_9, uc12_10, uc12_11, uc13_0, uc13_1, uc13_4, uc13_5, uc13_6, uc13_7, uc13_8, uc13_9, uc13_10, uc13_11, uc13_12, uc14_0, uc14_1, uc14_4, uc14_5, uc14_6, uc14_7, uc14_8, uc14_9, uc14_10, uc14_11, uc14_12, uc14_13, uc17_0, uc17_1, uc17_4, uc17_5, uc17_6, uc17_7, uc17_8, uc17_9, uc17_10, uc17_11, uc17_12, uc17_13, uc17_14, oI] at st sg sd
  rw [e0] at sg
  simp [x152_0, x152_1, x152_2, x152_5, x152_8, x152_11, x152_12, x152_13, x152_14, x152_17, x152_18, x152_19, x152_20, x152_21, x152_24, x152_27, rf_ref, c1_int, c1_ref, c1_UV, mst_T0, mst_I0, mst_R0, mst_J0, mst_T, mst_N, mst_I, mst_J, mst_B, mst_sI, mst_sI0, mst_sJ, mst_sJ0, uR_s, uR_o, uR_2, uR_uR, uL_s, uL_o, uL_1, up_s, up_o, mT, mN, mR, va_rf_some, litA, litB, litM, nI_add, okZ_0, okZ_1, okZ_zb, zb_0, gB_add, inb_lit, cl_lit, Nat.lt_irrefl, ↓reduceIte, if_true, if_false, RP_v, RP_n, s_is1, s_is0, s_may1, s_may0, uT_0, uT_o, uT_2, uT_T, uc1_0, uc4_0, uc4_1, uc5_0, uc5_1, uc5_4, uc6_0, uc6_1, uc6_4, uc6_5, uc7_0, uc7_1, uc7_4, uc7_5, uc7_6, uc8_0, uc8_1, uc8_4, uc8_5, uc8_6, uc8_7, uc9_0, uc9_1, uc9_4, uc9_5, uc9_6, uc9_7, uc9_8, uc10_0, uc10_1, uc10_4, uc10_5, uc10_6, uc10_7, uc10_8, uc10_9, uc11_0, uc11_1, uc11_4, uc11_5, uc11_6, uc11_7, uc11_8, uc11_9, uc11_10, uc12_0, uc12_1, uc12_4, uc12_5, uc12_6, uc12_7, uc12_8, uc12_9, uc12_10, uc12_11, uc13_0, uc13_1, uc13_4, uc13_5, uc13_6, uc13_7, uc13_8, uc13_9, uc13_10, uc13_11, uc13_12, uc14_0, uc14_1, uc14_4, uc14_5, uc14_6, uc14_7, uc14_8, uc14_9, uc14_10, uc14_11, uc14_12, uc14_13, uc17_0, uc17_1, uc17_4, uc17_5, uc17_6, uc17_7, uc17_8, uc17_9, uc17_10, uc17_11, uc17_12, uc17_13, uc17_14, s_areTicks', zb_t h, hb, st, sg, sd]
end

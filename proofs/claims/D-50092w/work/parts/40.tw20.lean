/-! the twin: changes, one by one -/
section
variable {d o : Nat} {G : Hp} {u : Mu}
set_option maxHeartbeats 4000000
/-- veto -/
def veE (u : Mu) (a k : Int32) : Int32 := if irB a 0 (u.1 0 2 - 1) = false then 1 else if irB k 0 (u.1 0 1 - 1) = false then 1 else if cvB (u.1 0) (u.1 4) (cl a) k = false then 2 else 0
theorem cvB_T {u : Mu} {x : Int32} {a : Nat} {k : Int32} : cvB ((uT u x).1 0) ((uT u x).1 4) a k = cvB (u.1 0) (u.1 4) a k := by
  unfold cvB dbF
  rw [uT_o (by decide), uT_0, up_o (by decide), up_o (by decide)]
theorem irB_A {a : Int32} {A : Nat} (h1 : 1 ≤ A) (h8 : A ≤ 8) (h : irB a 0 (nI A - 1) = true) : ∃ k, k < A ∧ a = nI k := by
  rw [irB_inb h1 (by omega)] at h
  obtain ⟨k, hk, e⟩ := vp_in_of (inb_iff.mp h) (by omega)
  exact ⟨k, hk, e⟩
theorem s_veto0 {a k : Int32} {A : Nat} (hb : gB G ≤ o) (h2 : u.1 0 2 = nI A) (h1A : 1 ≤ A) (hA : A ≤ 8) (h : ¬ veE u a k = 0) : XP PP (d + 3) 196 0 [.ref o, .int a, .int k] [] (mst G o u) = some (.inl (some (.int 0)), mst G o (uT u (veE u a k))) := by
  unfold veE at h ⊢
  by_cases q1 : irB a 0 (u.1 0 2 - 1) = false
  · simp [x196_0, x196_1, x196_2, x196_3, x196_6, x196_9, x196_10, x196_11, x196_14, x196_17, x196_18, x196_21, x196_22, x196_25, x196_28, x196_29, x196_30, x196_31, x196_32, x196_35, x196_36, x196_39, x196_42, x196_43, x196_44, x196_45, x196_48, x196_49, x196_50, x196_51, x196_52, x196_55, x196_58, rf_ref, c1_int, c1_ref, c1_UV, mst_T0, mst_I0, mst_R0, mst_J0, mst_T, mst_N, mst_I, mst_J, mst_B, mst_sI, mst_sI0, mst_sJ, mst_sJ0, uR_s, uR_o, uR_2, uR_uR, uL_s, uL_o, uL_1, up_s, up_o, mT, mN, mR, va_rf_some, litA, litB, litM, nI_add, okZ_0, okZ_1, okZ_zb, zb_0, gB_add, inb_lit, cl_lit, Nat.lt_irrefl, ↓reduceIte, if_true, if_false, RP_v, RP_n, s_is1, s_is0, s_may1, s_may0, uT_0, uT_o, uT_2, uT_T, s_isAsker', q1, zb_true, zb_false, hb]
  · by_cases q2 : irB k 0 (u.1 0 1 - 1) = false
    · simp [x196_0, x196_1, x196_2, x196_3, x196_6, x196_9, x196_10, x196_11, x196_14, x196_17, x196_18, x196_21, x196_22, x196_25, x196_28, x196_29, x196_30, x196_31, x196_32, x196_35, x196_36, x196_39, x196_42, x196_43, x196_44, x196_45, x196_48, x196_49, x196_50, x196_51, x196_52, x196_55, x196_58, rf_ref, c1_int, c1_ref, c1_UV, mst_T0, mst_I0, mst_R0, mst_J0, mst_T, mst_N, mst_I, mst_J, mst_B, mst_sI, mst_sI0, mst_sJ, mst_sJ0, uR_s, uR_o, uR_2, uR_uR, uL_s, uL_o, uL_1, up_s, up_o, mT, mN, mR, va_rf_some, litA, litB, litM, nI_add, okZ_0, okZ_1, okZ_zb, zb_0, gB_add, inb_lit, cl_lit, Nat.lt_irrefl, ↓reduceIte, if_true, if_false, RP_v, RP_n, s_is1, s_is0, s_may1, s_may0, uT_0, uT_o, uT_2, uT_T, s_isAsker', s_isClass', bt q1, q2, zb_true, zb_false, hb]
    · have qa := bt q1
      rw [h2] at qa
      obtain ⟨x, hx, rfl⟩ := irB_A h1A hA qa
      have hcx : cl (nI x) = x := nI_clamp (by omega)
      rw [hcx] at h ⊢
      have sv := fun d => s_canVeto (d := d) (o := o) (G := G) (u := uT u 0) (a := x) (k := k) (by omega)
      rw [cvB_T] at sv
      by_cases q3 : cvB (u.1 0) (u.1 4) x k = false
      · simp [x196_0, x196_1, x196_2, x196_3, x196_6, x196_9, x196_10, x196_11, x196_14, x196_17, x196_18, x196_21, x196_22, x196_25, x196_28, x196_29, x196_30, x196_31, x196_32, x196_35, x196_36, x196_39, x196_42, x196_43, x196_44, x196_45, x196_48, x196_49, x196_50, x196_51, x196_52, x196_55, x196_58, rf_ref, c1_int, c1_ref, c1_UV, mst_T0, mst_I0, mst_R0, mst_J0, mst_T, mst_N, mst_I, mst_J, mst_B, mst_sI, mst_sI0, mst_sJ, mst_sJ0, uR_s, uR_o, uR_2, uR_uR, uL_s, uL_o, uL_1, up_s, up_o, mT, mN, mR, va_rf_some, litA, litB, litM, nI_add, okZ_0, okZ_1, okZ_zb, zb_0, gB_add, inb_lit, cl_lit, Nat.lt_irrefl, ↓reduceIte, if_true, if_false, RP_v, RP_n, s_is1, s_is0, s_may1, s_may0, uT_0, uT_o, uT_2, uT_T, s_isAsker', s_isClass', bt q1, bt q2, zb_true, zb_false, hb, sv, q3]
      · exfalso
        apply h
        rw [if_neg q1, if_neg q2, if_neg q3]
theorem veF_T {u : Mu} {x : Int32} {a : Nat} {k : Int32} : veF ((uT u x).1 0) (u.1 4) a k = veF (u.1 0) (u.1 4) a k := by
  unfold veF dbF
  rw [uT_0, up_o (by decide)]
theorem dbF_T {u : Mu} {x : Int32} {a : Nat} : dbF ((uT u x).1 0) (u.1 4) a = dbF (u.1 0) (u.1 4) a := by
  unfold dbF
  rw [uT_0, up_o (by decide)]
theorem s_veto {a k : Int32} {A m : Nat} (hb : gB G ≤ o) (hz : WZ u) (h2 : u.1 0 2 = nI A) (h1A : 1 ≤ A) (hA : A ≤ 8) (hm : u.1 0 17 = nI m) (h8 : m ≤ 8) (h : veE u a k = 0) : XP PP (d + 3) 196 0 [.ref o, .int a, .int k] [] (mst G o u) = some (.inl (some (.int (dbF (u.1 0) (u.1 4) (cl a)))), mst G o (chF u m (veF (u.1 0) (u.1 4) (cl a) k) (u.1 10))) := by
  unfold veE at h
  by_cases q1 : irB a 0 (u.1 0 2 - 1) = false
  · rw [if_pos q1] at h; exact absurd h (by decide)
  · by_cases q2 : irB k 0 (u.1 0 1 - 1) = false
    · rw [if_neg q1, if_pos q2] at h; exact absurd h (by decide)
    · rw [if_neg q1, if_neg q2] at h
      by_cases q3 : cvB (u.1 0) (u.1 4) (cl a) k = false
      · rw [if_pos q3] at h; exact absurd h (by decide)
      · have qa := bt q1
        rw [h2] at qa
        obtain ⟨x, hx, rfl⟩ := irB_A h1A hA qa
        have hcx : cl (nI x) = x := nI_clamp (by omega)
        rw [hcx] at q3 ⊢
        have sv := fun d => s_canVeto (d := d) (o := o) (G := G) (u := uT u 0) (a := x) (k := k) (by omega)
        rw [cvB_T] at sv
        have st := fun d => s_starts (d := d) (G := G) (o := o) (u := uT u 0) hb (WZ_T hz)
        have sw := fun d => s_vetoes (d := d) (G := G) (o := o) (u := uR (uT u 0) 6 (u.1 4)) (a := x) (k := k) hb (by omega)
        have sd := fun d v => ch_done' (d := d) (G := G) (o := o) (u := u) (v := v) (m := m) (r := veF (u.1 0) (u.1 4) x k) hb hm h8
        have e6 : (uR (uT u 0) 6 (u.1 4)).1 4 = u.1 4 := by rw [uR_o (by decide), uT_o (by decide)]
        have e7 : (uR (uT u 0) 6 (u.1 4)).1 0 = (uT u 0).1 0 := by rw [uR_o (by decide)]
        rw [e6, e7, veF_T, dbF_T, uc6_4] at sw
        rw [uT_o (by decide)] at st
        simp [x196_0, x196_1, x196_2, x196_3, x196_6, x196_9, x196_10, x196_11, x196_14, x196_17, x196_18, x196_21, x196_22, x196_25, x196_28, x196_29, x196_30, x196_31, x196_32, x196_35, x196_36, x196_39, x196_42, x196_43, x196_44, x196_45, x196_48, x196_49, x196_50, x196_51, x196_52, x196_55, x196_58, rf_ref, c1_int, c1_ref, c1_UV, mst_T0, mst_I0, mst_R0, mst_J0, mst_T, mst_N, mst_I, mst_J, mst_B, mst_sI, mst_sI0, mst_sJ, mst_sJ0, uR_s, uR_o, uR_2, uR_uR, uL_s, uL_o, uL_1, up_s, up_o, mT, mN, mR, va_rf_some, litA, litB, litM, nI_add, okZ_0, okZ_1, okZ_zb, zb_0, gB_add, inb_lit, cl_lit, Nat.lt_irrefl, ↓reduceIte, if_true, if_false, RP_v, RP_n, s_is1, s_is0, s_may1, s_may0, uT_0, uT_o, uT_2, uT_T, s_isAsker', s_isClass', bt q1, bt q2, zb_true, zb_false, hb, sv, bt q3, st, sw, sd]
/-- payBack -/
def pbF (r : Rw) (a : Nat) : Rw := let p := if r (20 + a) < r (28 + a) then r (20 + a) else r (28 + a); va_up (va_up r (20 + a) (r (20 + a) - p)) (28 + a) (r (28 + a) - p)
theorem s_payBack0 {a : Int32} (hb : gB G ≤ o) (h : irB a 0 (u.1 0 2 - 1) = false) : XP PP (d + 2) 201 0 [.ref o, .int a, UV] [] (mst G o u) = some (.inl (some (.int 0)), mst G o (uT u 1)) := by
  simp [x201_0, x201_1, x201_2, x201_3, x201_6, x201_9, x201_12, x201_13, x201_14, x201_15, x201_18, x201_19, x201_22, x201_24, x201_25, x201_26, x201_27, x201_28, x201_31, x201_33, x201_34, x201_35, x201_36, x201_39, x201_40, x201_41, x201_44, x201_46, x201_47, x201_48, x201_49, x201_52, x201_54, x201_55, x201_56, x201_57, x201_58, x201_59, x201_60, x201_61, x201_64, x201_66, x201_67, x201_68, x201_69, x201_72, x201_74, x201_75, x201_76, x201_77, x201_78, x201_79, x201_80, x201_81, x201_82, x201_85, rf_ref, c1_int, c1_ref, c1_UV, mst_T0, mst_I0, mst_R0, mst_J0, mst_T, mst_N, mst_I, mst_J, mst_B, mst_sI, mst_sI0, mst_sJ, mst_sJ0, uR_s, uR_o, uR_2, uR_uR, uL_s, uL_o, uL_1, up_s, up_o, mT, mN, mR, va_rf_some, litA, litB, litM, nI_add, okZ_0, okZ_1, okZ_zb, zb_0, gB_add, inb_lit, cl_lit, Nat.lt_irrefl, ↓reduceIte, if_true, if_false, RP_v, RP_n, s_is1, s_is0, s_may1, s_may0, uT_0, uT_o, uT_2, uT_T, s_isAsker', h, zb_true, zb_false, hb]
theorem s_payBack {a : Int32} {A m : Nat} (hb : gB G ≤ o) (hz : WZ u) (h2 : u.1 0 2 = nI A) (h1A : 1 ≤ A) (hA : A ≤ 8) (hm : u.1 0 17 = nI m) (h8 : m ≤ 8) (h : irB a 0 (u.1 0 2 - 1) = true) : XP PP (d + 2) 201 0 [.ref o, .int a, UV] [] (mst G o u) = some (.inl (some (.int (if u.1 4 (20 + cl a) < u.1 4 (28 + cl a) then u.1 4 (20 + cl a) else u.1 4 (28 + cl a)))), mst G o (chF u m (pbF (u.1 4) (cl a)) (u.1 10))) := by
  have qa := h
  rw [h2] at qa
  obtain ⟨x, hx, rfl⟩ := irB_A h1A hA qa
  have hcx : cl (nI x) = x := nI_clamp (by omega)
  rw [hcx]
  have c1 : inb (nI (20 + x)) 718 = true := inb_nI (by omega) (by omega)
  have d1 : (nI (20 + x)).toNatClampNeg = 20 + x := nI_clamp (by omega)
  have c2 : inb (nI (28 + x)) 718 = true := inb_nI (by omega) (by omega)
  have d2 : (nI (28 + x)).toNatClampNeg = 28 + x := nI_clamp (by omega)
  have st := fun d => s_starts (d := d) (G := G) (o := o) (u := uT u 0) hb (WZ_T hz)
  have sd := fun d v => ch_done' (d := d) (G := G) (o := o) (u := u) (v := v) (m := m) (r := pbF (u.1 4) x) hb hm h8
  rw [uT_o (by decide)] at st
  unfold pbF at sd ⊢
  dsimp only at sd ⊢
  have h28 : ¬ 28 + x = 20 + x := by omega
  simp [x201_0, x201_1, x201_2, x201_3, x201_6, x201_9, x201_12, x201_13, x201_14, x201_15, x201_18, x201_19, x201_22, x201_24, x201_25, x201_26, x201_27, x201_28, x201_31, x201_33, x201_34, x201_35, x201_36, x201_39, x201_40, x201_41, x201_44, x201_46, x201_47, x201_48, x201_49, x201_52, x201_54, x201_55, x201_56, x201_57, x201_58, x201_59, x201_60, x201_61, x201_64, x201_66, x201_67, x201_68, x201_69, x201_72, x201_74, x201_75, x201_76, x201_77, x201_78, x201_79, x201_80, x201_81, x201_82, x201_85, rf_ref, c1_int, c1_ref, c1_UV, mst_T0, mst_I0, mst_R0, mst_J0, mst_T, mst_N, mst_I, mst_J, mst_B, mst_sI, mst_sI0, mst_sJ, mst_sJ0, uR_s, uR_o, uR_2, uR_uR, uL_s, uL_o, uL_1, up_s, up_o, mT, mN, mR, va_rf_some, litA, litB, litM, nI_add, okZ_0, okZ_1, okZ_zb, zb_0, gB_add, inb_lit, cl_lit, Nat.lt_irrefl, ↓reduceIte, if_true, if_false, RP_v, RP_n, s_is1, s_is0, s_may1, s_may0, uT_0, uT_o, uT_2, uT_T, s_isAsker', h, zb_true, zb_false, hb, st, c1, d1, c2, d2, s_lesser, uc6_4, sd]
/-- one number anew -/
theorem s_puts {k : Nat} {v : Int32} {m : Nat} (hb : gB G ≤ o) (hz : WZ u) (hk : k < 718) (hm : u.1 0 17 = nI m) (h8 : m ≤ 8) (h0 : u.1 0 0 = 0) : XP PP (d + 2) 204 0 [.ref o, .int (nI k), .int v, UV] [] (mst G o u) = some (.inl (some (.int (u.1 4 k))), mst G o (chF u m (va_up (u.1 4) k v) (u.1 10))) := by
  have c1 : inb (nI k) 718 = true := inb_nI (by omega) (by omega)
  have d1 : (nI k).toNatClampNeg = k := nI_clamp (by omega)
  have eu : uT u 0 = u := by
    unfold uT
    rw [show va_up (u.1 0) 0 (0 : Int32) = u.1 0 from by funext j; unfold va_up; split; (rename_i e; rw [e, h0]); rfl, uR_id]
  have st := fun d => s_starts (d := d) (G := G) (o := o) (u := u) hb hz
  have sd := fun d v' => ch_done' (d := d) (G := G) (o := o) (u := u) (v := v') (m := m) (r := va_up (u.1 4) k v) hb hm h8
  rw [eu] at sd
  simp [x204_0, x204_1, x204_4, x204_5, x204_8, x204_9, x204_10, x204_11, x204_12, x204_15, x204_16, x204_17, x204_18, x204_19, x204_20, x204_23, rf_ref, c1_int, c1_ref, c1_UV, mst_T0, mst_I0, mst_R0, mst_J0, mst_T, mst_N, mst_I, mst_J, mst_B, mst_sI, mst_sI0, mst_sJ, mst_sJ0, uR_s, uR_o, uR_2, uR_uR, uL_s, uL_o, uL_1, up_s, up_o, mT, mN, mR, va_rf_some, litA, litB, litM, nI_add, okZ_0, okZ_1, okZ_zb, zb_0, gB_add, inb_lit, cl_lit, Nat.lt_irrefl, ↓reduceIte, if_true, if_false, RP_v, RP_n, st, c1, d1, hb, uc6_4, sd]
theorem chF_T {m : Nat} {r T : Rw} : chF (uT u 0) m r T = chF u m r T := by
  unfold chF
  simp only [uT_0, uT_o (show ¬ 4 = 0 by decide), uT_o (show ¬ 9 = 0 by decide)]
  unfold uT
  rw [uR_uR]
  congr 6
  funext k
  unfold va_up
  split <;> rfl
theorem s_setTally0 {t : Int32} (hb : gB G ≤ o) (h : irB t 0 2 = false) : XP PP (d + 3) 202 0 [.ref o, .int t] [] (mst G o u) = some (.inl (some (.int 0)), mst G o (uT u 1)) := by
  simp [x202_0, x202_1, x202_2, x202_5, x202_8, x202_11, x202_12, x202_13, x202_14, x202_17, x202_20, x202_21, rf_ref, c1_int, c1_ref, c1_UV, mst_T0, mst_I0, mst_R0, mst_J0, mst_T, mst_N, mst_I, mst_J, mst_B, mst_sI, mst_sI0, mst_sJ, mst_sJ0, uR_s, uR_o, uR_2, uR_uR, uL_s, uL_o, uL_1, up_s, up_o, mT, mN, mR, va_rf_some, litA, litB, litM, nI_add, okZ_0, okZ_1, okZ_zb, zb_0, gB_add, inb_lit, cl_lit, Nat.lt_irrefl, ↓reduceIte, if_true, if_false, RP_v, RP_n, s_is1, s_is0, s_may1, s_may0, uT_0, uT_o, uT_2, uT_T, s_isTally', h, zb_true, zb_false, hb]
theorem s_setTally {t : Int32} {m : Nat} (hb : gB G ≤ o) (hz : WZ u) (hm : u.1 0 17 = nI m) (h8 : m ≤ 8) (h : irB t 0 2 = true) : XP PP (d + 3) 202 0 [.ref o, .int t] [] (mst G o u) = some (.inl (some (.int (u.1 4 1))), mst G o (chF u m (va_up (u.1 4) 1 t) (u.1 10))) := by
  have sp := fun d => s_puts (d := d) (G := G) (o := o) (u := uT u 0) (k := 1) (v := t) (m := m) hb (WZ_T hz) (by omega) (by rw [uT_0, up_o (by decide)]; exact hm) h8 (by rw [uT_0, up_s])
  rw [chF_T] at sp
  have e1 : (nI 1 : Int32) = 1 := rfl
  rw [e1] at sp
  simp [rf_ref, c1_int, c1_ref, c1_UV, mst_T0, mst_I0, mst_R0, mst_J0, mst_T, mst_N, mst_I, mst_J, mst_B, mst_sI, mst_sI0, mst_sJ, mst_sJ0, uR_s, uR_o, uR_2, uR_uR, uL_s, uL_o, uL_1, up_s, up_o, mT, mN, mR, va_rf_some, litA, litB, litM, nI_add, okZ_0, okZ_1, okZ_zb, zb_0, gB_add, inb_lit, cl_lit, Nat.lt_irrefl, ↓reduceIte, if_true, if_false, RP_v, RP_n, s_is1, s_is0, s_may1, s_may0, uT_0, uT_o, uT_2, uT_T] at sp
  simp [x202_0, x202_1, x202_2, x202_5, x202_8, x202_11, x202_12, x202_13, x202_14, x202_17, x202_20, x202_21, rf_ref, c1_int, c1_ref, c1_UV, mst_T0, mst_I0, mst_R0, mst_J0, mst_T, mst_N, mst_I, mst_J, mst_B, mst_sI, mst_sI0, mst_sJ, mst_sJ0, uR_s, uR_o, uR_2, uR_uR, uL_s, uL_o, uL_1, up_s, up_o, mT, mN, mR, va_rf_some, litA, litB, litM, nI_add, okZ_0, okZ_1, okZ_zb, zb_0, gB_add, inb_lit, cl_lit, Nat.lt_irrefl, ↓reduceIte, if_true, if_false, RP_v, RP_n, s_is1, s_is0, s_may1, s_may0, uT_0, uT_o, uT_2, uT_T, s_isTally', h, zb_true, zb_false, hb, sp]
def smE (u : Mu) (k v : Int32) : Int32 := if irB k 0 (u.1 0 1 - 1) = false then 1 else if irB v 0 3 = false then 2 else 0
theorem s_isIn3 {l : Int32} : XP PP d 154 0 [.long l.toInt64, UV, .long 0, UV, .long 3, UV] [] G = some (.inl (some (.int (zb (irB l 0 3)))), G) := by rw [← inI_t i64_0 i64_3]; exact s_isIn
theorem s_setManner0 {k v : Int32} (hb : gB G ≤ o) (h : ¬ smE u k v = 0) : XP PP (d + 3) 205 0 [.ref o, .int k, .int v] [] (mst G o u) = some (.inl (some (.int 0)), mst G o (uT u (smE u k v))) := by
  unfold smE at h ⊢
  by_cases q1 : irB k 0 (u.1 0 1 - 1) = false
  · simp [x205_0, x205_1, x205_2, x205_3, x205_6, x205_9, x205_12, x205_13, x205_14, x205_15, x205_16, x205_19, x205_22, x205_23, x205_26, x205_29, x205_30, x205_31, x205_32, x205_34, x205_35, x205_36, x205_37, x205_40, rf_ref, c1_int, c1_ref, c1_UV, mst_T0, mst_I0, mst_R0, mst_J0, mst_T, mst_N, mst_I, mst_J, mst_B, mst_sI, mst_sI0, mst_sJ, mst_sJ0, uR_s, uR_o, uR_2, uR_uR, uL_s, uL_o, uL_1, up_s, up_o, mT, mN, mR, va_rf_some, litA, litB, litM, nI_add, okZ_0, okZ_1, okZ_zb, zb_0, gB_add, inb_lit, cl_lit, Nat.lt_irrefl, ↓reduceIte, if_true, if_false, RP_v, RP_n, s_is1, s_is0, s_may1, s_may0, uT_0, uT_o, uT_2, uT_T, s_isClass', q1, zb_true, zb_false, hb]
  · by_cases q2 : irB v 0 3 = false
    · simp [x205_0, x205_1, x205_2, x205_3, x205_6, x205_9, x205_12, x205_13, x205_14, x205_15, x205_16, x205_19, x205_22, x205_23, x205_26, x205_29, x205_30, x205_31, x205_32, x205_34, x205_35, x205_36, x205_37, x205_40, rf_ref, c1_int, c1_ref, c1_UV, mst_T0, mst_I0, mst_R0, mst_J0, mst_T, mst_N, mst_I, mst_J, mst_B, mst_sI, mst_sI0, mst_sJ, mst_sJ0, uR_s, uR_o, uR_2, uR_uR, uL_s, uL_o, uL_1, up_s, up_o, mT, mN, mR, va_rf_some, litA, litB, litM, nI_add, okZ_0, okZ_1, okZ_zb, zb_0, gB_add, inb_lit, cl_lit, Nat.lt_irrefl, ↓reduceIte, if_true, if_false, RP_v, RP_n, s_is1, s_is0, s_may1, s_may0, uT_0, uT_o, uT_2, uT_T, s_isClass', s_isIn3, bt q1, q2, zb_true, zb_false, hb]
    · exact absurd (by rw [if_neg q1, if_neg q2]) h
theorem s_setManner {k v : Int32} {K m : Nat} (hb : gB G ≤ o) (hz : WZ u) (h1 : u.1 0 1 = nI K) (h1K : 1 ≤ K) (hK : K ≤ 5) (hm : u.1 0 17 = nI m) (h8 : m ≤ 8) (h : smE u k v = 0) : XP PP (d + 3) 205 0 [.ref o, .int k, .int v] [] (mst G o u) = some (.inl (some (.int (u.1 4 (15 + cl k)))), mst G o (chF u m (va_up (u.1 4) (15 + cl k) v) (u.1 10))) := by
  unfold smE at h
  by_cases q1 : irB k 0 (u.1 0 1 - 1) = false
  · rw [if_pos q1] at h; exact absurd h (by decide)
  · by_cases q2 : irB v 0 3 = false
    · rw [if_neg q1, if_pos q2] at h; exact absurd h (by decide)
    · have qa := bt q1
      rw [h1] at qa
      obtain ⟨x, hx, rfl⟩ := irB_A h1K (by omega) qa
      have hcx : cl (nI x) = x := nI_clamp (by omega)
      rw [hcx]
      have sp := fun d => s_puts (d := d) (G := G) (o := o) (u := uT u 0) (k := 15 + x) (v := v) (m := m) hb (WZ_T hz) (by omega) (by rw [uT_0, up_o (by decide)]; exact hm) h8 (by rw [uT_0, up_s])
      rw [chF_T, uT_o (by decide)] at sp
      simp [x205_0, x205_1, x205_2, x205_3, x205_6, x205_9, x205_12, x205_13, x205_14, x205_15, x205_16, x205_19, x205_22, x205_23, x205_26, x205_29, x205_30, x205_31, x205_32, x205_34, x205_35, x205_36, x205_37, x205_40, rf_ref, c1_int, c1_ref, c1_UV, mst_T0, mst_I0, mst_R0, mst_J0, mst_T, mst_N, mst_I, mst_J, mst_B, mst_sI, mst_sI0, mst_sJ, mst_sJ0, uR_s, uR_o, uR_2, uR_uR, uL_s, uL_o, uL_1, up_s, up_o, mT, mN, mR, va_rf_some, litA, litB, litM, nI_add, okZ_0, okZ_1, okZ_zb, zb_0, gB_add, inb_lit, cl_lit, Nat.lt_irrefl, ↓reduceIte, if_true, if_false, RP_v, RP_n, s_is1, s_is0, s_may1, s_may0, uT_0, uT_o, uT_2, uT_T, s_isClass', s_isIn3, bt q1, bt q2, zb_true, zb_false, hb, sp]
end

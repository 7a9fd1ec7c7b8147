/-! the twin: questions, asked -/
section
variable {d o : Nat} {G : Hp} {u : Mu}
set_option maxHeartbeats 4000000
set_option maxRecDepth 20000
theorem VW_T {x : Int32} {K A : Nat} (h : VW (u.1 0) (u.1 4) K A) : VW ((uT u x).1 0) ((uT u x).1 4) K A := by
  rw [uT_0, uT_o (by decide)]
  exact ⟨by rw [up_o (by decide)]; exact h.1, h.2.1, by rw [up_o (by decide)]; exact h.2.2.1, h.2.2.2.1, h.2.2.2.2⟩
theorem ballot_i {k : Int32} {K : Nat} (h1 : 1 ≤ K) (hK : K ≤ 5) (h : irB k 0 (nI K - 1) = true) : ∃ x, x < K ∧ k = nI x := irB_A h1 (by omega) h
/-- what was told; what is answered -/
def tld (b : Bool) : Int32 := if b = true then 0 else 1
theorem s_ballot {a p : Int32} {K A : Nat} (hb : gB G ≤ o) (h1 : u.1 0 1 = nI K) (h1K : 1 ≤ K) (hK : K ≤ 5) (h2 : u.1 0 2 = nI A) (h1A : 1 ≤ A) (hA : A ≤ 8) :
    XP PP (d + 2) 214 0 [.ref o, .int a, .int p] [] (mst G o u) = some (.inl (some (.int (if (irB a 0 (nI A - 1) && irB p 0 (nI K - 1)) = true then u.1 4 (78 + 5 * cl a + cl p) else 0))), mst G o (uT u (tld (irB a 0 (nI A - 1) && irB p 0 (nI K - 1))))) := by
  by_cases q : irB a 0 (nI A - 1) = true
  · by_cases q2 : irB p 0 (nI K - 1) = true
    · obtain ⟨x, hx, rfl⟩ := irB_A h1A hA q
      obtain ⟨y, hy, rfl⟩ := ballot_i h1K hK q2
      have c1' : cl (nI x) = x := nI_clamp (by omega)
      have c2' : cl (nI y) = y := nI_clamp (by omega)
      have so := fun d => s_onBallot (d := d) (G := G) (o := o) (u := uT u 0) (a := x) (p := y) (by omega) (by omega)
      simp [x214_0, x214_1, x214_2, x214_3, x214_6, x214_9, x214_10, x214_11, x214_14, x214_17, x214_18, x214_21, x214_22, x214_25, x214_28, x214_29, x214_30, x214_31, x214_34, x214_37, x214_38, rf_ref, c1_int, c1_ref, c1_UV, mst_T0, mst_I0, mst_R0, mst_J0, mst_T, mst_N, mst_I, mst_J, mst_B, mst_sI, mst_sI0, mst_sJ, mst_sJ0, uR_s, uR_o, uR_2, uR_uR, uL_s, uL_o, uL_1, up_s, up_o, mT, mN, mR, va_rf_some, litA, litB, litM, nI_add, okZ_0, okZ_1, okZ_zb, zb_0, gB_add, inb_lit, cl_lit, Nat.lt_irrefl, ↓reduceIte, if_true, if_false, RP_v, RP_n, s_is1, s_is0, s_may1, s_may0, uT_0, uT_o, uT_2, uT_T, s_isAsker', s_isClass', s_isIn9, s_isIn5, s_isIn4, s_isIn59, s_isIn3, s_isIn20, s_isTally', s_areTicks', h1, h2, q, q2, zb_true, zb_false, hb, tld, c1', c2', so]
    · simp [x214_0, x214_1, x214_2, x214_3, x214_6, x214_9, x214_10, x214_11, x214_14, x214_17, x214_18, x214_21, x214_22, x214_25, x214_28, x214_29, x214_30, x214_31, x214_34, x214_37, x214_38, rf_ref, c1_int, c1_ref, c1_UV, mst_T0, mst_I0, mst_R0, mst_J0, mst_T, mst_N, mst_I, mst_J, mst_B, mst_sI, mst_sI0, mst_sJ, mst_sJ0, uR_s, uR_o, uR_2, uR_uR, uL_s, uL_o, uL_1, up_s, up_o, mT, mN, mR, va_rf_some, litA, litB, litM, nI_add, okZ_0, okZ_1, okZ_zb, zb_0, gB_add, inb_lit, cl_lit, Nat.lt_irrefl, ↓reduceIte, if_true, if_false, RP_v, RP_n, s_is1, s_is0, s_may1, s_may0, uT_0, uT_o, uT_2, uT_T, s_isAsker', s_isClass', s_isIn9, s_isIn5, s_isIn4, s_isIn59, s_isIn3, s_isIn20, s_isTally', s_areTicks', h1, h2, q, q2, zb_true, zb_false, hb, tld]
  · simp [x214_0, x214_1, x214_2, x214_3, x214_6, x214_9, x214_10, x214_11, x214_14, x214_17, x214_18, x214_21, x214_22, x214_25, x214_28, x214_29, x214_30, x214_31, x214_34, x214_37, x214_38, rf_ref, c1_int, c1_ref, c1_UV, mst_T0, mst_I0, mst_R0, mst_J0, mst_T, mst_N, mst_I, mst_J, mst_B, mst_sI, mst_sI0, mst_sJ, mst_sJ0, uR_s, uR_o, uR_2, uR_uR, uL_s, uL_o, uL_1, up_s, up_o, mT, mN, mR, va_rf_some, litA, litB, litM, nI_add, okZ_0, okZ_1, okZ_zb, zb_0, gB_add, inb_lit, cl_lit, Nat.lt_irrefl, ↓reduceIte, if_true, if_false, RP_v, RP_n, s_is1, s_is0, s_may1, s_may0, uT_0, uT_o, uT_2, uT_T, s_isAsker', s_isClass', s_isIn9, s_isIn5, s_isIn4, s_isIn59, s_isIn3, s_isIn20, s_isTally', s_areTicks', h1, h2, q, zb_true, zb_false, hb, tld]
theorem s_order {p : Int32} {K : Nat} (hb : gB G ≤ o) (h1 : u.1 0 1 = nI K) (h1K : 1 ≤ K) (hK : K ≤ 5) :
    XP PP (d + 2) 215 0 [.ref o, .int p] [] (mst G o u) = some (.inl (some (.int (if irB p 0 (nI K - 1) = true then u.1 4 (10 + cl p) else 0))), mst G o (uT u (tld (irB p 0 (nI K - 1))))) := by
  by_cases q2 : irB p 0 (nI K - 1) = true
  · obtain ⟨y, hy, rfl⟩ := ballot_i h1K hK q2
    have c2' : cl (nI y) = y := nI_clamp (by omega)
    have c1' : inb (nI (10 + y)) 718 = true := inb_nI (by omega) (by omega)
    have d1 : (nI (10 + y)).toNatClampNeg = 10 + y := nI_clamp (by omega)
    simp [x215_0, x215_1, x215_2, x215_3, x215_6, x215_9, x215_12, x215_13, x215_16, x215_18, x215_19, x215_20, x215_21, x215_24, x215_25, rf_ref, c1_int, c1_ref, c1_UV, mst_T0, mst_I0, mst_R0, mst_J0, mst_T, mst_N, mst_I, mst_J, mst_B, mst_sI, mst_sI0, mst_sJ, mst_sJ0, uR_s, uR_o, uR_2, uR_uR, uL_s, uL_o, uL_1, up_s, up_o, mT, mN, mR, va_rf_some, litA, litB, litM, nI_add, okZ_0, okZ_1, okZ_zb, zb_0, gB_add, inb_lit, cl_lit, Nat.lt_irrefl, ↓reduceIte, if_true, if_false, RP_v, RP_n, s_is1, s_is0, s_may1, s_may0, uT_0, uT_o, uT_2, uT_T, s_isAsker', s_isClass', s_isIn9, s_isIn5, s_isIn4, s_isIn59, s_isIn3, s_isIn20, s_isTally', s_areTicks', h1, q2, zb_true, zb_false, hb, tld, c2', c1', d1]
  · simp [x215_0, x215_1, x215_2, x215_3, x215_6, x215_9, x215_12, x215_13, x215_16, x215_18, x215_19, x215_20, x215_21, x215_24, x215_25, rf_ref, c1_int, c1_ref, c1_UV, mst_T0, mst_I0, mst_R0, mst_J0, mst_T, mst_N, mst_I, mst_J, mst_B, mst_sI, mst_sI0, mst_sJ, mst_sJ0, uR_s, uR_o, uR_2, uR_uR, uL_s, uL_o, uL_1, up_s, up_o, mT, mN, mR, va_rf_some, litA, litB, litM, nI_add, okZ_0, okZ_1, okZ_zb, zb_0, gB_add, inb_lit, cl_lit, Nat.lt_irrefl, ↓reduceIte, if_true, if_false, RP_v, RP_n, s_is1, s_is0, s_may1, s_may0, uT_0, uT_o, uT_2, uT_T, s_isAsker', s_isClass', s_isIn9, s_isIn5, s_isIn4, s_isIn59, s_isIn3, s_isIn20, s_isTally', s_areTicks', h1, q2, zb_true, zb_false, hb, tld]
theorem s_progress (hb : gB G ≤ o) : XP PP d 218 0 [.ref o] [] (mst G o u) = some (.inl (some (.int (u.1 4 8))), mst G o (uT u 0)) := by
  have e : sI (mst G o u) o 0 0 = mst G o (uT u 0) := mst_sI0
  simp [x218_0, x218_1, x218_2, x218_5, x218_6, x218_9, x218_11, x218_12, rf_ref, c1_int, c1_ref, c1_UV, mst_T0, mst_I0, mst_R0, mst_J0, mst_T, mst_N, mst_I, mst_J, mst_B, mst_sI, mst_sI0, mst_sJ, mst_sJ0, uR_s, uR_o, uR_2, uR_uR, uL_s, uL_o, uL_1, up_s, up_o, mT, mN, mR, va_rf_some, litA, litB, litM, nI_add, okZ_0, okZ_1, okZ_zb, zb_0, gB_add, inb_lit, cl_lit, Nat.lt_irrefl, ↓reduceIte, if_true, if_false, RP_v, RP_n, s_is1, s_is0, s_may1, s_may0, uT_0, uT_o, uT_2, uT_T, hb, uT]
/-- request -/
def rqE (r : Rw) (n : Nat) (s x : Int32) : Int32 := if irB x 0 4 = false then 1 else if (fst (ixB r s) n).isSome = true then 0 else 2
def rqV (r : Rw) (n : Nat) (s x : Int32) : Int32 := if irB x 0 4 = false then 0 else (match fst (ixB r s) n with | some i => r (118 + 6 * i + (cl x + 1)) | none => 0)
theorem s_request {s x : Int32} {n : Nat} (hb : gB G ≤ o) (h9 : u.1 4 9 = nI n) (hn : n ≤ 40) : XP PP (d + 2) 216 0 [.ref o, .int s, .int x, UV] [] (mst G o u) = some (.inl (some (.int (rqV (u.1 4) n s x))), mst G o (uT u (rqE (u.1 4) n s x))) := by
  have si := fun d => s_indexOf (d := d) (o := o) (G := G) (u := u) (s := s) hn h9
  unfold rqV rqE
  by_cases q : irB x 0 4 = false
  · simp [x216_0, x216_1, x216_2, x216_5, x216_6, x216_7, x216_8, x216_9, x216_10, x216_13, x216_16, x216_19, x216_22, x216_23, x216_24, x216_25, x216_28, x216_29, x216_32, x216_33, x216_34, x216_37, x216_40, x216_41, x216_42, x216_43, x216_44, x216_45, x216_46, x216_47, x216_50, rf_ref, c1_int, c1_ref, c1_UV, mst_T0, mst_I0, mst_R0, mst_J0, mst_T, mst_N, mst_I, mst_J, mst_B, mst_sI, mst_sI0, mst_sJ, mst_sJ0, uR_s, uR_o, uR_2, uR_uR, uL_s, uL_o, uL_1, up_s, up_o, mT, mN, mR, va_rf_some, litA, litB, litM, nI_add, okZ_0, okZ_1, okZ_zb, zb_0, gB_add, inb_lit, cl_lit, Nat.lt_irrefl, ↓reduceIte, if_true, if_false, RP_v, RP_n, s_is1, s_is0, s_may1, s_may0, uT_0, uT_o, uT_2, uT_T, s_isAsker', s_isClass', s_isIn9, s_isIn5, s_isIn4, s_isIn59, s_isIn3, s_isIn20, s_isTally', s_areTicks', si, q, zb_true, zb_false, hb]
  · have q' := bt q
    cases hf : fst (ixB (u.1 4) s) n with
    | none =>
      rw [hf] at si
      simp [oI] at si
      simp [x216_0, x216_1, x216_2, x216_5, x216_6, x216_7, x216_8, x216_9, x216_10, x216_13, x216_16, x216_19, x216_22, x216_23, x216_24, x216_25, x216_28, x216_29, x216_32, x216_33, x216_34, x216_37, x216_40, x216_41, x216_42, x216_43, x216_44, x216_45, x216_46, x216_47, x216_50, rf_ref, c1_int, c1_ref, c1_UV, mst_T0, mst_I0, mst_R0, mst_J0, mst_T, mst_N, mst_I, mst_J, mst_B, mst_sI, mst_sI0, mst_sJ, mst_sJ0, uR_s, uR_o, uR_2, uR_uR, uL_s, uL_o, uL_1, up_s, up_o, mT, mN, mR, va_rf_some, litA, litB, litM, nI_add, okZ_0, okZ_1, okZ_zb, zb_0, gB_add, inb_lit, cl_lit, Nat.lt_irrefl, ↓reduceIte, if_true, if_false, RP_v, RP_n, s_is1, s_is0, s_may1, s_may0, uT_0, uT_o, uT_2, uT_T, s_isAsker', s_isClass', s_isIn9, s_isIn5, s_isIn4, s_isIn59, s_isIn3, s_isIn20, s_isTally', s_areTicks', si, q', zb_true, zb_false, hb]
    | some i =>
      have hi := (fst_spec hf).1
      rw [hf] at si
      simp [oI] at si
      obtain ⟨k, hk, hk0, rfl⟩ := irB_nn (lo := 0) (by omega) q'
      have hk4 : k ≤ 4 := by
        unfold irB at q'
        simp only [Bool.and_eq_true, decide_eq_true_eq] at q'
        exact (nI_leI (b := 4) hk (by omega)).mp q'.2
      have c2' : cl (nI k) = k := nI_clamp (by omega)
      have so := fun d => s_of (d := d) (G := G) (o := o) (u := uT u 0) (i := i) (w := k + 1) (by omega) (by omega)
      rw [uT_o (by decide)] at so
      simp [x216_0, x216_1, x216_2, x216_5, x216_6, x216_7, x216_8, x216_9, x216_10, x216_13, x216_16, x216_19, x216_22, x216_23, x216_24, x216_25, x216_28, x216_29, x216_32, x216_33, x216_34, x216_37, x216_40, x216_41, x216_42, x216_43, x216_44, x216_45, x216_46, x216_47, x216_50, rf_ref, c1_int, c1_ref, c1_UV, mst_T0, mst_I0, mst_R0, mst_J0, mst_T, mst_N, mst_I, mst_J, mst_B, mst_sI, mst_sI0, mst_sJ, mst_sJ0, uR_s, uR_o, uR_2, uR_uR, uL_s, uL_o, uL_1, up_s, up_o, mT, mN, mR, va_rf_some, litA, litB, litM, nI_add, okZ_0, okZ_1, okZ_zb, zb_0, gB_add, inb_lit, cl_lit, Nat.lt_irrefl, ↓reduceIte, if_true, if_false, RP_v, RP_n, s_is1, s_is0, s_may1, s_may0, uT_0, uT_o, uT_2, uT_T, s_isAsker', s_isClass', s_isIn9, s_isIn5, s_isIn4, s_isIn59, s_isIn3, s_isIn20, s_isTally', s_areTicks', si, q', zb_true, zb_false, hb, m1_nI (show i < 2 ^ 31 by omega), nI_1, c2', so]
/-- line -/
def liE (r : Rw) (n : Nat) (K : Nat) (k x : Int32) : Int32 := if irB k 0 (nI K - 1) = false then 1 else if irB x 0 (nI (cnt (ilB r k) n) - 1) = false then 2 else 0
theorem s_line0 {k x : Int32} {K n : Nat} (hb : gB G ≤ o) (h9 : u.1 4 9 = nI n) (hn : n ≤ 40) (h1 : u.1 0 1 = nI K) (h : ¬ liE (u.1 4) n K k x = 0) : XP PP (d + 5) 217 0 [.ref o, .int k, .int x] [] (mst G o u) = some (.inl (some (.int 0)), mst G o (uT u (liE (u.1 4) n K k x))) := by
  have sw := fun d => s_waitingIn (d := d) (G := G) (o := o) (u := uT u 0) (k := k) (n := n) (by rw [uT_o (by decide)]; exact h9) hn
  rw [uT_o (by decide)] at sw
  unfold liE at h ⊢
  by_cases q : irB k 0 (nI K - 1) = false
  · simp [x217_0, x217_1, x217_2, x217_3, x217_6, x217_9, x217_12, x217_13, x217_14, x217_15, x217_16, x217_17, x217_18, x217_21, x217_22, x217_23, x217_24, x217_27, x217_28, x217_31, x217_34, x217_35, x217_36, x217_37, x217_38, x217_39, x217_40, x217_43, x217_44, x217_47, rf_ref, c1_int, c1_ref, c1_UV, mst_T0, mst_I0, mst_R0, mst_J0, mst_T, mst_N, mst_I, mst_J, mst_B, mst_sI, mst_sI0, mst_sJ, mst_sJ0, uR_s, uR_o, uR_2, uR_uR, uL_s, uL_o, uL_1, up_s, up_o, mT, mN, mR, va_rf_some, litA, litB, litM, nI_add, okZ_0, okZ_1, okZ_zb, zb_0, gB_add, inb_lit, cl_lit, Nat.lt_irrefl, ↓reduceIte, if_true, if_false, RP_v, RP_n, s_is1, s_is0, s_may1, s_may0, uT_0, uT_o, uT_2, uT_T, s_isAsker', s_isClass', s_isIn9, s_isIn5, s_isIn4, s_isIn59, s_isIn3, s_isIn20, s_isTally', s_areTicks', h1, q, zb_true, zb_false, hb]
  · by_cases q2 : irB x 0 (nI (cnt (ilB (u.1 4) k) n) - 1) = false
    · simp [x217_0, x217_1, x217_2, x217_3, x217_6, x217_9, x217_12, x217_13, x217_14, x217_15, x217_16, x217_17, x217_18, x217_21, x217_22, x217_23, x217_24, x217_27, x217_28, x217_31, x217_34, x217_35, x217_36, x217_37, x217_38, x217_39, x217_40, x217_43, x217_44, x217_47, rf_ref, c1_int, c1_ref, c1_UV, mst_T0, mst_I0, mst_R0, mst_J0, mst_T, mst_N, mst_I, mst_J, mst_B, mst_sI, mst_sI0, mst_sJ, mst_sJ0, uR_s, uR_o, uR_2, uR_uR, uL_s, uL_o, uL_1, up_s, up_o, mT, mN, mR, va_rf_some, litA, litB, litM, nI_add, okZ_0, okZ_1, okZ_zb, zb_0, gB_add, inb_lit, cl_lit, Nat.lt_irrefl, ↓reduceIte, if_true, if_false, RP_v, RP_n, s_is1, s_is0, s_may1, s_may0, uT_0, uT_o, uT_2, uT_T, s_isAsker', s_isClass', s_isIn9, s_isIn5, s_isIn4, s_isIn59, s_isIn3, s_isIn20, s_isTally', s_areTicks', s_isInX, h1, bt q, q2, sw, zb_true, zb_false, hb]
    · exact absurd (by rw [if_neg q, if_neg q2]) h
theorem s_line {k x : Int32} {K n i : Nat} (hb : gB G ≤ o) (hq : rqs (u.1 4) n) (h1 : u.1 0 1 = nI K) (h : liE (u.1 4) n K k x = 0) (hi : fst (lnB (u.1 4) n k (cl x)) n = some i) : XP PP (d + 5) 217 0 [.ref o, .int k, .int x] [] (mst G o u) = some (.inl (some (.int (u.1 4 (118 + 6 * i)))), mst G o (uT u 0)) := by
  have e4 : (uT u 0).1 4 = u.1 4 := uT_o (by decide)
  have sw := fun d => s_waitingIn (d := d) (G := G) (o := o) (u := uT u 0) (k := k) (n := n) (by rw [e4]; exact hq.2.1) hq.1
  rw [e4] at sw
  unfold liE at h
  by_cases q : irB k 0 (nI K - 1) = false
  · rw [if_pos q] at h; exact absurd h (by decide)
  · rw [if_neg q] at h
    by_cases q2 : irB x 0 (nI (cnt (ilB (u.1 4) k) n) - 1) = false
    · rw [if_pos q2] at h; exact absurd h (by decide)
    · have q2' := bt q2
      obtain ⟨y, hy, hy0, rfl⟩ := irB_nn (lo := 0) (by omega) q2'
      have c2' : cl (nI y) = y := nI_clamp (by omega)
      rw [c2'] at hi
      have sl := fun d => s_inLine (d := d) (G := G) (o := o) (u := uT u 0) (k := k) (n := n) (p := y) (by rw [e4]; exact hq) hy
      rw [e4, hi] at sl
      simp [oI] at sl
      have h40 : i < 40 := by have := (fst_spec hi).1; have := hq.1; omega
      simp [x217_0, x217_1, x217_2, x217_3, x217_6, x217_9, x217_12, x217_13, x217_14, x217_15, x217_16, x217_17, x217_18, x217_21, x217_22, x217_23, x217_24, x217_27, x217_28, x217_31, x217_34, x217_35, x217_36, x217_37, x217_38, x217_39, x217_40, x217_43, x217_44, x217_47, rf_ref, c1_int, c1_ref, c1_UV, mst_T0, mst_I0, mst_R0, mst_J0, mst_T, mst_N, mst_I, mst_J, mst_B, mst_sI, mst_sI0, mst_sJ, mst_sJ0, uR_s, uR_o, uR_2, uR_uR, uL_s, uL_o, uL_1, up_s, up_o, mT, mN, mR, va_rf_some, litA, litB, litM, nI_add, okZ_0, okZ_1, okZ_zb, zb_0, gB_add, inb_lit, cl_lit, Nat.lt_irrefl, ↓reduceIte, if_true, if_false, RP_v, RP_n, s_is1, s_is0, s_may1, s_may0, uT_0, uT_o, uT_2, uT_T, s_isAsker', s_isClass', s_isIn9, s_isIn5, s_isIn4, s_isIn59, s_isIn3, s_isIn20, s_isTally', s_areTicks', s_of0, s_of1, s_of2, s_of3, s_of4, s_of5, s_isInX, h1, bt q, q2', sw, sl, zb_true, zb_false, hb, h40]
/-- answer -/
def anE (r : Rw) (b x : Int32) : Int32 := if irB x 0 5 = false then 1 else if (irB b 0 59 && decide (b < r 7)) = false then 2 else 0
theorem s_answer0 {b x : Int32} (hb : gB G ≤ o) (h : ¬ anE (u.1 4) b x = 0) : XP PP (d + 1) 219 0 [.ref o, .int b, .int x] [] (mst G o u) = some (.inl (some (.int 0)), mst G o (uT u (anE (u.1 4) b x))) := by
  unfold anE at h ⊢
  by_cases q : irB x 0 5 = false
  · simp [x219_0, x219_1, x219_2, x219_3, x219_4, x219_7, x219_10, x219_13, x219_16, x219_17, x219_18, x219_19, x219_20, x219_23, x219_26, x219_29, x219_30, x219_31, x219_34, x219_36, x219_37, x219_40, x219_41, x219_44, x219_45, x219_46, x219_49, x219_52, x219_53, x219_54, x219_55, x219_58, x219_61, x219_63, x219_64, x219_67, x219_69, x219_70, x219_71, x219_72, x219_73, x219_74, x219_76, x219_77, x219_78, x219_79, x219_80, x219_81, x219_82, rf_ref, c1_int, c1_ref, c1_UV, mst_T0, mst_I0, mst_R0, mst_J0, mst_T, mst_N, mst_I, mst_J, mst_B, mst_sI, mst_sI0, mst_sJ, mst_sJ0, uR_s, uR_o, uR_2, uR_uR, uL_s, uL_o, uL_1, up_s, up_o, mT, mN, mR, va_rf_some, litA, litB, litM, nI_add, okZ_0, okZ_1, okZ_zb, zb_0, gB_add, inb_lit, cl_lit, Nat.lt_irrefl, ↓reduceIte, if_true, if_false, RP_v, RP_n, s_is1, s_is0, s_may1, s_may0, uT_0, uT_o, uT_2, uT_T, s_isAsker', s_isClass', s_isIn9, s_isIn5, s_isIn4, s_isIn59, s_isIn3, s_isIn20, s_isTally', s_areTicks', q, zb_true, zb_false, hb]
  · by_cases q2 : irB b 0 59 = true
    · by_cases q3 : b < u.1 4 7
      · exact absurd (by rw [if_neg q, if_neg (by simp [q2, q3])]) h
      · simp [x219_0, x219_1, x219_2, x219_3, x219_4, x219_7, x219_10, x219_13, x219_16, x219_17, x219_18, x219_19, x219_20, x219_23, x219_26, x219_29, x219_30, x219_31, x219_34, x219_36, x219_37, x219_40, x219_41, x219_44, x219_45, x219_46, x219_49, x219_52, x219_53, x219_54, x219_55, x219_58, x219_61, x219_63, x219_64, x219_67, x219_69, x219_70, x219_71, x219_72, x219_73, x219_74, x219_76, x219_77, x219_78, x219_79, x219_80, x219_81, x219_82, rf_ref, c1_int, c1_ref, c1_UV, mst_T0, mst_I0, mst_R0, mst_J0, mst_T, mst_N, mst_I, mst_J, mst_B, mst_sI, mst_sI0, mst_sJ, mst_sJ0, uR_s, uR_o, uR_2, uR_uR, uL_s, uL_o, uL_1, up_s, up_o, mT, mN, mR, va_rf_some, litA, litB, litM, nI_add, okZ_0, okZ_1, okZ_zb, zb_0, gB_add, inb_lit, cl_lit, Nat.lt_irrefl, ↓reduceIte, if_true, if_false, RP_v, RP_n, s_is1, s_is0, s_may1, s_may0, uT_0, uT_o, uT_2, uT_T, s_isAsker', s_isClass', s_isIn9, s_isIn5, s_isIn4, s_isIn59, s_isIn3, s_isIn20, s_isTally', s_areTicks', bt q, q2, q3, Int32.not_lt.mp q3, zb_true, zb_false, hb]
    · simp [x219_0, x219_1, x219_2, x219_3, x219_4, x219_7, x219_10, x219_13, x219_16, x219_17, x219_18, x219_19, x219_20, x219_23, x219_26, x219_29, x219_30, x219_31, x219_34, x219_36, x219_37, x219_40, x219_41, x219_44, x219_45, x219_46, x219_49, x219_52, x219_53, x219_54, x219_55, x219_58, x219_61, x219_63, x219_64, x219_67, x219_69, x219_70, x219_71, x219_72, x219_73, x219_74, x219_76, x219_77, x219_78, x219_79, x219_80, x219_81, x219_82, rf_ref, c1_int, c1_ref, c1_UV, mst_T0, mst_I0, mst_R0, mst_J0, mst_T, mst_N, mst_I, mst_J, mst_B, mst_sI, mst_sI0, mst_sJ, mst_sJ0, uR_s, uR_o, uR_2, uR_uR, uL_s, uL_o, uL_1, up_s, up_o, mT, mN, mR, va_rf_some, litA, litB, litM, nI_add, okZ_0, okZ_1, okZ_zb, zb_0, gB_add, inb_lit, cl_lit, Nat.lt_irrefl, ↓reduceIte, if_true, if_false, RP_v, RP_n, s_is1, s_is0, s_may1, s_may0, uT_0, uT_o, uT_2, uT_T, s_isAsker', s_isClass', s_isIn9, s_isIn5, s_isIn4, s_isIn59, s_isIn3, s_isIn20, s_isTally', s_areTicks', bt q, q2, zb_true, zb_false, hb]
theorem s_answer {b x : Int32} {e : Nat} (hb : gB G ≤ o) (h7 : u.1 4 7 = nI e) (he : e < 2 ^ 31) (h : anE (u.1 4) b x = 0) : XP PP (d + 1) 219 0 [.ref o, .int b, .int x] [] (mst G o u) = some (.inl (some (.int (u.1 4 (358 + 6 * ((e - 1 - cl b) % 60) + cl x)))), mst G o (uT u 0)) := by
  unfold anE at h
  by_cases q : irB x 0 5 = false
  · rw [if_pos q] at h; exact absurd h (by decide)
  · rw [if_neg q] at h
    by_cases q2 : (irB b 0 59 && decide (b < u.1 4 7)) = false
    · rw [if_pos q2] at h; exact absurd h (by decide)
    · have q2' := bt q2
      rw [Bool.and_eq_true, decide_eq_true_eq] at q2'
      obtain ⟨q3, q4⟩ := q2'
      have q' := bt q
      obtain ⟨y, hy, hy0, rfl⟩ := irB_nn (lo := 0) (by omega) q3
      obtain ⟨w, hw, hw0, rfl⟩ := irB_nn (lo := 0) (by omega) q'
      have w5 : w ≤ 5 := by
        unfold irB at q'
        simp only [Bool.and_eq_true, decide_eq_true_eq] at q'
        exact (nI_leI (b := 5) hw (by omega)).mp q'.2
      have q4' := q4
      rw [h7, nI_ltI hy he] at q4'
      have c1' : cl (nI y) = y := nI_clamp (by omega)
      have c2' : cl (nI w) = w := nI_clamp (by omega)
      rw [c1', c2']
      have e1 : nI e - 1 - nI y = nI (e - 1 - y) := by rw [show (1 : Int32) = nI 1 from rfl, nI_sub (by omega), nI_sub (by omega)]
      have e2 : nI (e - 1 - y) - nI (e - 1 - y) / 60 * 60 = nI ((e - 1 - y) % 60) := pk_rem (d := 60) (by omega) (by omega) (by omega)
      have hm := Nat.mod_lt (e - 1 - y) (show 0 < 60 by omega)
      have i1 : inb (nI (358 + 6 * ((e - 1 - y) % 60) + w)) 718 = true := inb_nI (by omega) (by omega)
      have i2 : (nI (358 + 6 * ((e - 1 - y) % 60) + w)).toNatClampNeg = 358 + 6 * ((e - 1 - y) % 60) + w := nI_clamp (by omega)
      rw [h7] at q4
      simp [x219_0, x219_1, x219_2, x219_3, x219_4, x219_7, x219_10, x219_13, x219_16, x219_17, x219_18, x219_19, x219_20, x219_23, x219_26, x219_29, x219_30, x219_31, x219_34, x219_36, x219_37, x219_40, x219_41, x219_44, x219_45, x219_46, x219_49, x219_52, x219_53, x219_54, x219_55, x219_58, x219_61, x219_63, x219_64, x219_67, x219_69, x219_70, x219_71, x219_72, x219_73, x219_74, x219_76, x219_77, x219_78, x219_79, x219_80, x219_81, x219_82, rf_ref, c1_int, c1_ref, c1_UV, mst_T0, mst_I0, mst_R0, mst_J0, mst_T, mst_N, mst_I, mst_J, mst_B, mst_sI, mst_sI0, mst_sJ, mst_sJ0, uR_s, uR_o, uR_2, uR_uR, uL_s, uL_o, uL_1, up_s, up_o, mT, mN, mR, va_rf_some, litA, litB, litM, nI_add, okZ_0, okZ_1, okZ_zb, zb_0, gB_add, inb_lit, cl_lit, Nat.lt_irrefl, ↓reduceIte, if_true, if_false, RP_v, RP_n, s_is1, s_is0, s_may1, s_may0, uT_0, uT_o, uT_2, uT_T, s_isAsker', s_isClass', s_isIn9, s_isIn5, s_isIn4, s_isIn59, s_isIn3, s_isIn20, s_isTally', s_areTicks', q', q3, q4, Int32.not_le.mpr q4, h7, e1, e2, i1, i2, zb_true, zb_false, hb]
end

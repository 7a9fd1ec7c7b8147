/-! the JDK: arrays are copied, lists grow -/
/-- a list's elements: the shared empty array, or one of its own -/
def EL (G : Hp) (e : Nat) : Prop := gT G e = 110 ∧ gN G e ≤ 60 ∧ ((e = gA G 23 ∧ gN G e = 0) ∨ (gB G ≤ e ∧ ¬ e = gA G 23 ∧ 10 ≤ gN G e))
/-- what may lie in a list -/
def OKE (G : Hp) (e m : Nat) : Prop := ∀ k, k < m → match gR G e k with
  | none => True
  | some q => okA 110 (gT G q) = true ∧ q < gX G
theorem nJ_0 : (0 : Int32) = nI 0 := rfl
theorem shr1 : ∀ x, x ≤ 60 → (nI x) >>> ((1 : Int32) &&& 31) = nI (x / 2) := by
  intro x hx
  have : ∀ x : Fin 61, (nI x.val) >>> ((1 : Int32) &&& 31) = nI (x.val / 2) := by decide
  exact this ⟨x, by omega⟩
theorem n_nlt {x : Nat} (hx : x < 2 ^ 31) : ¬ nI x < 0 := Int32.not_lt.mpr (by rw [nJ_0, nI_leI (by omega) hx]; omega)
theorem m_minN {x y : Nat} (hx : x < 2 ^ 31) (hy : y < 2 ^ 31) : (if nI y < nI x then nI y else nI x) = nI (min x y) := by
  simp only [nI_ltN hy hx]
  by_cases q : y < x
  · rw [if_pos q, Nat.min_eq_right (by omega)]
  · rw [if_neg q, Nat.min_eq_left (by omega)]
theorem m_maxN {x y : Nat} (hx : x < 2 ^ 31) (hy : y < 2 ^ 31) : (if nI x < nI y then nI y else nI x) = nI (max x y) := by
  simp only [nI_ltN hx hy]
  by_cases q : x < y
  · rw [if_pos q, Nat.max_eq_right (by omega)]
  · rw [if_neg q, Nat.max_eq_left (by omega)]
section
variable {d a e m n : Nat} {G : Hp}
set_option maxHeartbeats 4000000
set_option maxRecDepth 20000
theorem s_copyOf (hn : n ≤ 100000) (hT : gT G e = 110) (he : e < gX G) (hN : gN G e ≤ 100000) (hb : gB G ≤ gX G) (ho : OKE G e (min (gN G e) n)) :
    XP PP (d + 1) 430 0 [.ref e, .int (nI n)] [] (G) = some (.inl (some (.ref (gX G))), sRr (nw G 110 n) (gX G) (va_cpy (gR G e) (fun _ => none) 0 0 (min (gN G e) n))) := by
  have hne : ¬ e = gX G := by omega
  have j1 : (nI n).toNatClampNeg = n := nI_clamp (by omega)
  have j2 : (nI (min (gN G e) n)).toNatClampNeg = min (gN G e) n := nI_clamp (by omega)
  have e1 : (if nI n < nI (gN G e) then nI n else nI (gN G e)) = nI (min (gN G e) n) := m_minN (by omega) (by omega)
  have k0 : ¬ nI n < 0 := n_nlt (by omega)
  have k1 : (0 : Int32).toNatClampNeg = 0 := rfl
  have hc : cpOK (nw G 110 n) (gX G) e 0 0 (nI (min (gN G e) n)) = true := by
    unfold cpOK
    rw [nv_N hne, nv_Ns, nv_T hne, nv_Ts, nv_B, hT, j2, k1]
    have := n_nlt (x := min (gN G e) n) (by omega)
    simp [this, hb]
    omega
  have hr : rAll okA (nw G 110 n) (gX G) e 0 (min (gN G e) n) = true := by
    unfold rAll
    rw [List.all_eq_true]
    intro i hi
    rw [List.mem_range] at hi
    have := ho i hi
    rw [nv_Ts, Nat.zero_add, nv_R hne]
    cases hq : gR G e i with
    | none => rfl
    | some q =>
      rw [hq] at this
      dsimp only
      rw [nv_T (by omega)]
      exact this.1
  have hg : gR (nw G 110 n) (gX G) = fun _ => none := funext fun _ => nv_Rs
  have hg2 : gR (nw G 110 n) e = gR G e := funext fun _ => nv_R hne
  have k2 : n ≤ 100000 := hn
  simp [x430_0, x430_1, x430_2, x430_3, x430_6, x430_9, x431_0, x431_1, x431_3, x431_6, x431_7, x431_10, x431_13, x431_17, x431_21, x431_21n, x431_24, x431_25, x431_26, x431_27, x431_28, x431_29, x431_30, x431_31, x431_32, x431_35, x431_35b, x431_35r, x431_38, x431_39, rf_ref, rf_va, rf_null, c1_int, c1_ref, c1_UV, rvo_n, rvo_r, c1_null, c1_va, up_s, up_o, va_rf_some, va_rf_none, litA, litB, litM, nI_add, okZ_0, okZ_1, okZ_zb, zb_0, gB_add, inb_lit, cl_lit, Nat.lt_irrefl, ↓reduceIte, if_true, if_false, RP_v, RP_n, nv_A, nv_B, nv_S, nv_X, sI_A, sI_B, sI_J, sI_N, sI_R, sI_S, sI_T, sI_X, sIr_A, sIr_B, sIr_J, sIr_N, sIr_R, sIr_S, sIr_T, sIr_X, sJ_A, sJ_B, sJ_I, sJ_N, sJ_R, sJ_S, sJ_T, sJ_X, sR_A, sR_B, sR_I, sR_J, sR_N, sR_S, sR_T, sR_X, sRr_A, sRr_B, sRr_I, sRr_J, sRr_N, sRr_S, sRr_T, sRr_X, hT, j1, k0, k1, k2, nv_T hne, nv_N hne, nv_Ts, e1, j2, hc, hr, hg, hg2]
/-- the array's new length -/
def gwL (l mc : Nat) : Nat := if l = 0 then max 10 mc else l + max (mc - l) (l / 2)
theorem s_newLen {l mc : Nat} (hl : l ≤ 60) (hmc : mc ≤ 60) (h : l ≤ mc) (h1 : 2 ≤ l) : XP PP d 417 0 [.int (nI l), .int (nI (mc - l)), .int (nI (l / 2)), UV] [] G = some (.inl (some (.int (nI (l + max (mc - l) (l / 2))))), G) := by
  have e1 : (if nI (mc - l) < nI (l / 2) then nI (l / 2) else nI (mc - l)) = nI (max (mc - l) (l / 2)) := m_maxN (by omega) (by omega)
  have e2 : ¬ nI (l + max (mc - l) (l / 2)) ≤ 0 := by rw [nJ_0, nI_leI (by omega) (by omega)]; omega
  have e3 : ¬ (2147483639 : Int32) < nI (l + max (mc - l) (l / 2)) := by
    rw [show (2147483639 : Int32) = nI 2147483639 from rfl, nI_ltI (by omega) (by omega)]; omega
  simp [x417_0, x417_1, x417_2, x417_3, x417_6, x417_7, x417_8, x417_9, x417_10, x417_13, x417_14, x417_16, x417_19, x417_20, x417_21, x417_22, x417_26, rf_ref, rf_va, rf_null, c1_int, c1_ref, c1_UV, rvo_n, rvo_r, c1_null, c1_va, up_s, up_o, va_rf_some, va_rf_none, litA, litB, litM, nI_add, okZ_0, okZ_1, okZ_zb, zb_0, gB_add, inb_lit, cl_lit, Nat.lt_irrefl, ↓reduceIte, if_true, if_false, RP_v, RP_n, e1, e2, e3]
theorem s_alGrow {mc : Nat} (h : AL G a e m) (hE : EL G e) (hmc : mc ≤ 60) (hl : gN G e ≤ mc) (h1 : 1 ≤ mc) (ha : gB G ≤ a) (hax : a < gX G) (hex : e < gX G) (hb : gB G ≤ gX G) (ho : OKE G e (gN G e)) :
    XP PP (d + 2) 317 0 [.ref a, .int (nI mc), UV, UV] [] (G) = some (.inl (some (.ref (gX G))), sR (sRr (nw G 110 (gwL (gN G e) mc)) (gX G) (va_cpy (gR G e) (fun _ => none) 0 0 (gN G e))) a 1 (some (gX G))) := by
  obtain ⟨a1, a2, a3, a4, a5, a6⟩ := h
  obtain ⟨b1, b2, b3⟩ := hE
  have hne : ¬ a = gX G := by omega
  unfold gwL
  rcases b3 with ⟨b3, b4⟩ | ⟨b3, b4, b5⟩
  · have e0 : nI (gN G e) ≤ 0 := by rw [b4]; decide
    have e1 : (if (10 : Int32) < nI mc then nI mc else 10) = nI (max 10 mc) := m_maxN (x := 10) (by omega) (by omega)
    have j1 : (nI (max 10 mc)).toNatClampNeg = max 10 mc := nI_clamp (by omega)
    have k0 : ¬ nI (max 10 mc) < 0 := n_nlt (by omega)
    have k2 : max 10 mc ≤ 100000 := by omega
    rw [b4, if_pos rfl, va_cpy_0]
    have hg : gR (nw G 110 (max 10 mc)) (gX G) = fun _ => none := funext fun _ => nv_Rs
    have hid := sRr_id (G := nw G 110 (max 10 mc)) (a := gX G)
    rw [hg] at hid
    rw [hid]
    have b3' : e = gA G 23 := b3
    have e0' : ¬ 0 < nI 0 := by decide
    simp [x317_0, x317_1, x317_4, x317_5, x317_6, x317_7, x317_10, x317_11, x317_14, x317_17, x317_20, x317_21, x317_22, x317_23, x317_24, x317_25, x317_26, x317_27, x317_30, x317_31, x317_32, x317_33, x317_36, x317_37, x317_40, x317_41, x317_44, x317_45, x317_46, x317_48, x317_49, x317_52, x317_55, x317_56, x317_59, rf_ref, rf_va, rf_null, c1_int, c1_ref, c1_UV, rvo_n, rvo_r, c1_null, c1_va, up_s, up_o, va_rf_some, va_rf_none, litA, litB, litM, nI_add, okZ_0, okZ_1, okZ_zb, zb_0, gB_add, inb_lit, cl_lit, Nat.lt_irrefl, ↓reduceIte, if_true, if_false, RP_v, RP_n, nv_A, nv_B, nv_S, nv_X, sI_A, sI_B, sI_J, sI_N, sI_R, sI_S, sI_T, sI_X, sIr_A, sIr_B, sIr_J, sIr_N, sIr_R, sIr_S, sIr_T, sIr_X, sJ_A, sJ_B, sJ_I, sJ_N, sJ_R, sJ_S, sJ_T, sJ_X, sR_A, sR_B, sR_I, sR_J, sR_N, sR_S, sR_T, sR_X, sRr_A, sRr_B, sRr_I, sRr_J, sRr_N, sRr_S, sRr_T, sRr_X, a1, a2, b1, b4, e0', ← b3', e1, j1, k0, k2, nv_T hne, ha]
  · have e0 : ¬ nI (gN G e) ≤ 0 := by rw [nJ_0, nI_leI (by omega) (by omega)]; omega
    have e0' : 0 < nI (gN G e) := Int32.not_le.mp e0
    have s1 : nI mc - nI (gN G e) = nI (mc - gN G e) := nI_sub hl
    have s2 := shr1 _ b2
    have s3 := fun d => s_newLen (d := d) (G := G) b2 hmc hl (by omega)
    have hmin : min (gN G e) (gN G e + max (mc - gN G e) (gN G e / 2)) = gN G e := Nat.min_eq_left (by omega)
    have s4 := fun d => s_copyOf (d := d) (G := G) (e := e) (n := gN G e + max (mc - gN G e) (gN G e / 2)) (by omega) b1 hex (by omega) hb (by rw [hmin]; exact ho)
    rw [hmin] at s4
    rw [if_neg (by omega)]
    simp [x317_0, x317_1, x317_4, x317_5, x317_6, x317_7, x317_10, x317_11, x317_14, x317_17, x317_20, x317_21, x317_22, x317_23, x317_24, x317_25, x317_26, x317_27, x317_30, x317_31, x317_32, x317_33, x317_36, x317_37, x317_40, x317_41, x317_44, x317_45, x317_46, x317_48, x317_49, x317_52, x317_55, x317_56, x317_59, rf_ref, rf_va, rf_null, c1_int, c1_ref, c1_UV, rvo_n, rvo_r, c1_null, c1_va, up_s, up_o, va_rf_some, va_rf_none, litA, litB, litM, nI_add, okZ_0, okZ_1, okZ_zb, zb_0, gB_add, inb_lit, cl_lit, Nat.lt_irrefl, ↓reduceIte, if_true, if_false, RP_v, RP_n, nv_A, nv_B, nv_S, nv_X, sI_A, sI_B, sI_J, sI_N, sI_R, sI_S, sI_T, sI_X, sIr_A, sIr_B, sIr_J, sIr_N, sIr_R, sIr_S, sIr_T, sIr_X, sJ_A, sJ_B, sJ_I, sJ_N, sJ_R, sJ_S, sJ_T, sJ_X, sR_A, sR_B, sR_I, sR_J, sR_N, sR_S, sR_T, sR_X, sRr_A, sRr_B, sRr_I, sRr_J, sRr_N, sRr_S, sRr_T, sRr_X, a1, a2, b1, e0, e0', s1, s2, s3, s4, nv_T hne, ha]
end

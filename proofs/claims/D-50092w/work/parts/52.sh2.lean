/-! the component: a ballot is added to the sheet -/
theorem plc_lt {f : Rw} {k : Int32} (h : plc f k < 5) : f (plc f k) = k := by
  unfold plc at h ⊢
  cases e : fst (fun p => decide (f p = k)) 5 with
  | none => rw [e] at h; exact absurd h (by decide)
  | some j => exact of_decide_eq_true (fst_spec e).2.1
/-- the place of a class, 5 where there is none -/
def qp (f : Rw) (k : Nat) : Nat := if k < 5 then plc f (nI k) else 5
/-- a row of K classes, each once -/
def BP (f : Rw) (K : Nat) : Prop := (∀ p, p < K → vp_in (f p) K) ∧ ∀ k, k < K → ∃ p, p < K ∧ f p = nI k
theorem plc_ltK {f : Rw} {K k : Nat} (hK : K ≤ 5) (h : ∃ p, p < K ∧ f p = nI k) : plc f (nI k) < K := by
  obtain ⟨p, hp, e⟩ := h
  have := plc_spec (f := f) (k := nI k) ⟨p, by omega, e⟩
  refine Nat.lt_of_le_of_lt (Nat.not_lt.mp fun z => this.2.2 p z e) hp
theorem qp_of {f : Rw} {K p : Nat} (hK : K ≤ 5) (hf : BP f K) (hp : p < K) : ∃ k, k < K ∧ f p = nI k ∧ ∀ j, qp f j = p ↔ j = k := by
  obtain ⟨k, hk, e⟩ := inj_surj K (fun k => plc f (nI k)) (fun k hk => plc_ltK hK (hf.2 k hk)) (fun i j hi hj e => by
    have a := plc_lt (f := f) (k := nI i) (Nat.lt_of_lt_of_le (plc_ltK hK (hf.2 i hi)) hK)
    have b := plc_lt (f := f) (k := nI j) (Nat.lt_of_lt_of_le (plc_ltK hK (hf.2 j hj)) hK)
    rw [e] at a
    exact (nI_eq (by omega) (by omega)).mp (a.symm.trans b)) p hp
  have hfk : f p = nI k := by
    have a := plc_lt (f := f) (k := nI k) (by omega)
    rwa [e] at a
  refine ⟨k, hk, hfk, fun j => ⟨fun h => ?_, fun h => ?_⟩⟩
  · unfold qp at h
    by_cases q : j < 5
    · rw [if_pos q] at h
      have a := plc_lt (f := f) (k := nI j) (by omega)
      rw [h] at a
      exact (nI_eq (by omega) (by omega)).mp (a.symm.trans hfk)
    · rw [if_neg q] at h; omega
  · subst h
    unfold qp
    rw [if_pos (by omega), e]
theorem qp_K {f : Rw} {K k : Nat} (hK : K ≤ 5) (hf : BP f K) (hk : k < K) : qp f k = plc f (nI k) ∧ qp f k < K := by
  unfold qp
  rw [if_pos (by omega)]
  exact ⟨rfl, plc_ltK hK (hf.2 k hk)⟩
def adP (f : Rw) (K : Nat) (w : Int32) (p : Nat) (P : Rw) : Rw := fun k => P k + if qp f k < p then w * (nI K - 1 - nI (qp f k)) else 0
def adF (f : Rw) (w : Int32) (p : Nat) (F : Rw) : Rw := fun n => F n + if n % 5 < p ∧ qp f (n / 5) = n % 5 then w else 0
def adB (f : Rw) (K : Nat) (w : Int32) (p : Nat) (B : Rw) : Rw := fun n => B n + if qp f (n / 5) < p ∧ qp f (n / 5) < qp f (n % 5) ∧ qp f (n % 5) < K then w else 0
def adC (f : Rw) (w : Int32) (p m : Nat) (B : Rw) : Rw := fun n => B n + if qp f (n / 5) = p ∧ p < qp f (n % 5) ∧ qp f (n % 5) < m then w else 0
theorem ad0 (x y : Int32) (c : Prop) [Decidable c] (h : ¬ c) : x + (if c then y else 0) = x := by rw [if_neg h]; exact Int32.add_zero x
section
variable {f P F B : Rw} {K p k : Nat} {w : Int32}
theorem adP_0 : adP f K w 0 P = P := by funext k; exact ad0 _ _ _ (by omega)
theorem adF_0 : adF f w 0 F = F := by funext k; exact ad0 _ _ _ (by omega)
theorem adB_0 : adB f K w 0 B = B := by funext k; exact ad0 _ _ _ (by omega)
theorem adC_0 : adC f w p (p + 1) B = B := by funext k; exact ad0 _ _ _ (by omega)
theorem adP_k (h : ∀ j, qp f j = p ↔ j = k) : va_up (adP f K w p P) k (adP f K w p P k + w * (nI K - 1 - nI p)) = adP f K w (p + 1) P := by
  funext j; unfold va_up
  by_cases e : j = k
  · have := (h j).mpr e
    rw [if_pos e, ← e]
    unfold adP
    rw [if_neg (by omega), if_pos (by omega), this, Int32.add_zero]
  · rw [if_neg e]
    unfold adP
    have : ¬ qp f j = p := fun z => e ((h j).mp z)
    by_cases q : qp f j < p
    · rw [if_pos q, if_pos (by omega)]
    · rw [if_neg q, if_neg (by omega)]
theorem adF_k (h : ∀ j, qp f j = p ↔ j = k) (hp : p < 5) : va_up (adF f w p F) (5 * k + p) (adF f w p F (5 * k + p) + w) = adF f w (p + 1) F := by
  have hq := (h k).mpr rfl
  funext j; unfold va_up
  by_cases e : j = 5 * k + p
  · have e1 : j / 5 = k := by omega
    have e2 : j % 5 = p := by omega
    rw [if_pos e, ← e]
    unfold adF
    rw [if_neg (by omega), if_pos (by rw [e1, e2]; exact ⟨by omega, hq⟩), Int32.add_zero]
  · rw [if_neg e]
    unfold adF
    have : ¬ (j % 5 = p ∧ qp f (j / 5) = j % 5) := fun z => by
      have := (h (j / 5)).mp (by omega)
      omega
    by_cases q : j % 5 < p ∧ qp f (j / 5) = j % 5
    · rw [if_pos q, if_pos (by omega)]
    · rw [if_neg q, if_neg (by omega)]
theorem adC_k {m l : Nat} (h : ∀ j, qp f j = p ↔ j = k) (hm : ∀ j, qp f j = m ↔ j = l) (hl : l < 5) (hpm : p < m) : va_up (adC f w p m B) (5 * k + l) (adC f w p m B (5 * k + l) + w) = adC f w p (m + 1) B := by
  have hq := (h k).mpr rfl
  have hq2 := (hm l).mpr rfl
  funext j; unfold va_up
  by_cases e : j = 5 * k + l
  · have e1 : j / 5 = k := by omega
    have e2 : j % 5 = l := by omega
    rw [if_pos e, ← e]
    unfold adC
    rw [if_neg (by rw [e2]; omega), if_pos (by rw [e1, e2]; exact ⟨hq, by omega, by omega⟩), Int32.add_zero]
  · rw [if_neg e]
    unfold adC
    have : ¬ (qp f (j / 5) = p ∧ qp f (j % 5) = m) := fun z => by
      have := (h (j / 5)).mp z.1
      have := (hm (j % 5)).mp z.2
      omega
    by_cases q : qp f (j / 5) = p ∧ p < qp f (j % 5) ∧ qp f (j % 5) < m
    · rw [if_pos q, if_pos (by omega)]
    · rw [if_neg q, if_neg (by omega)]
theorem adC_B : adC f w p K (adB f K w p B) = adB f K w (p + 1) B := by
  funext j
  unfold adC adB
  by_cases q : qp f (j / 5) < p ∧ qp f (j / 5) < qp f (j % 5) ∧ qp f (j % 5) < K
  · rw [if_pos q, if_neg (by omega), if_pos (by omega), Int32.add_zero]
  · rw [if_neg q, Int32.add_zero]
    by_cases q2 : qp f (j / 5) = p ∧ p < qp f (j % 5) ∧ qp f (j % 5) < K
    · rw [if_pos q2, if_pos (by omega)]
    · rw [if_neg q2, if_neg (by omega)]
end
section
variable {d b : Nat} {G : Hp} {s : Bs}
set_option maxHeartbeats 4000000
set_option maxRecDepth 20000
theorem s_shAdd {f : Rw} {K n0 : Nat} {w : Int32} (hb : gB G ≤ b) (hK : K ≤ 5) (h3 : s.1 17 3 = nI K) (hf : ∀ p, p < K → s.1 7 (n0 + p) = f p) (hn : n0 + K ≤ 40) (hB : BP f K) :
    XP PP d 140 0 [.ref (b + 17), .ref (b + 7), .int (nI n0), .int w, UV, UV, UV] [] (bst G b s) = some (.inl (none), bst G b (shU s (s.1 17 4 + 1) (adP f K w K (s.1 18)) (adF f w K (s.1 19)) (adB f K w K (s.1 20)))) := by
  have hin : ∀ p k, p < K → k < K → (∀ j, qp f j = p ↔ j = k) → ∀ v P F B, XP PP d 140 73 [.ref (b + 17), .ref (b + 7), .int (nI n0), .int w, .int (nI p), .int (nI k), .int (nI (p + 1))] [] (bst G b (shU s v P F B)) = XP PP d 140 108 [.ref (b + 17), .ref (b + 7), .int (nI n0), .int w, .int (nI p), .int (nI k), .int (nI K)] [] (bst G b (shU s v P F (adC f w p K B))) := by
    intro p k hp hk hq v P F B
    have hl : XP PP d 140 73 [.ref (b + 17), .ref (b + 7), .int (nI n0), .int w, .int (nI p), .int (nI k), .int (nI (p + 1 + 0))] [] (bst G b (shU s v P F (adC f w p (p + 1 + 0) B))) = XP PP d 140 108 [.ref (b + 17), .ref (b + 7), .int (nI n0), .int w, .int (nI p), .int (nI k), .int (nI K)] [] (bst G b (shU s v P F (adC f w p K B))) := by
      refine XP_for (K - 1 - p) (fun j => [.ref (b + 17), .ref (b + 7), .int (nI n0), .int w, .int (nI p), .int (nI k), .int (nI (p + 1 + j))]) (fun j => bst G b (shU s v P F (adC f w p (p + 1 + j) B))) ?_ ?_ 0 (Nat.zero_le _)
      · intro j hj
        obtain ⟨l, hl, e, hm⟩ := qp_of (p := p + 1 + j) hK hB (by omega)
        have e1 : ¬ nI K ≤ nI (p + 1 + j) := nI_ge (by omega) (by omega)
        have i1 : inb (nI (n0 + (p + 1 + j))) 40 = true := inb_nI (by omega) (by omega)
        have i2 : (nI (n0 + (p + 1 + j))).toNatClampNeg = n0 + (p + 1 + j) := nI_clamp (by omega)
        have i3 : inb (nI (5 * k + l)) 25 = true := inb_nI (by omega) (by omega)
        have i4 : (nI (5 * k + l)).toNatClampNeg = 5 * k + l := nI_clamp (by omega)
        have e2 := hf (p + 1 + j) (by omega)
        have e3 := adC_k (w := w) (B := B) hq hm (by omega) (by omega)
        refine Eq.trans (by first | exact x140_73 | exact x140_73 (rf_ref _) | exact x140_73 rfl) ?_
        simp [x140_0, x140_1, x140_2, x140_5, x140_6, x140_7, x140_10, x140_11, x140_15, x140_16, x140_19, x140_22, x140_23, x140_24, x140_26, x140_27, x140_28, x140_30, x140_31, x140_34, x140_36, x140_37, x140_38, x140_39, x140_40, x140_43, x140_44, x140_45, x140_47, x140_48, x140_49, x140_50, x140_51, x140_52, x140_55, x140_56, x140_58, x140_59, x140_61, x140_62, x140_63, x140_64, x140_65, x140_66, x140_67, x140_69, x140_70, x140_71, x140_75, x140_76, x140_79, x140_82, x140_83, x140_86, x140_87, x140_89, x140_90, x140_91, x140_92, x140_94, x140_95, x140_96, x140_97, x140_98, x140_99, x140_100, x140_101, x140_102, x140_105, x140_108, x140_111, x140_114, bst_T0, bst_T, bst_N, bst_I0, bst_I, bst_R0, bst_R, bst_B, bst_X, bst_S, bst_A, bst_sI, bst_sI0, bst_sC, bst_sY, bst_sE, bI_s, bI_o, bI_2, bI_bI, bC_1, bY_1, bE_1, bT, bN, bR, rf_ref, rf_va, rf_null, c1_int, c1_ref, c1_UV, rvo_n, rvo_r, c1_null, c1_va, up_s, up_o, va_rf_some, va_rf_none, litA, litB, litM, nI_add, okZ_0, okZ_1, okZ_zb, zb_0, gB_add, inb_lit, cl_lit, Nat.lt_irrefl, ↓reduceIte, if_true, if_false, RP_v, RP_n, shU_17, shU_18, shU_19, shU_20, shU_o, shU_2, shU_w17, shU_w18, shU_w19, shU_w20, va_up_up, h3, e1, i1, i2, i3, i4, e2, e, e3, hb, nI_1]
        rfl
      · have e2 : p + 1 + (K - 1 - p) = K := by omega
        refine Eq.trans (by first | exact x140_73 | exact x140_73 (rf_ref _) | exact x140_73 rfl) ?_
        simp [x140_75, x140_76, x140_79, bst_T0, bst_T, bst_N, bst_I0, bst_I, bst_R0, bst_R, bst_B, bst_X, bst_S, bst_A, bst_sI, bst_sI0, bst_sC, bst_sY, bst_sE, bI_s, bI_o, bI_2, bI_bI, bC_1, bY_1, bE_1, bT, bN, bR, rf_ref, rf_va, rf_null, c1_int, c1_ref, c1_UV, rvo_n, rvo_r, c1_null, c1_va, up_s, up_o, va_rf_some, va_rf_none, litA, litB, litM, nI_add, okZ_0, okZ_1, okZ_zb, zb_0, gB_add, inb_lit, cl_lit, Nat.lt_irrefl, ↓reduceIte, if_true, if_false, RP_v, RP_n, shU_17, shU_18, shU_19, shU_20, shU_o, shU_2, shU_w17, shU_w18, shU_w19, shU_w20, va_up_up, h3, e2]
    rw [Nat.add_zero, adC_0] at hl
    exact hl
  have hl : ∀ v, XP PP d 140 13 [.ref (b + 17), .ref (b + 7), .int (nI n0), .int w, .int 0, UV, UV] [] (bst G b (shU s v (adP f K w 0 (s.1 18)) (adF f w 0 (s.1 19)) (adB f K w 0 (s.1 20)))) = some (.inl none, bst G b (shU s v (adP f K w K (s.1 18)) (adF f w K (s.1 19)) (adB f K w K (s.1 20)))) := by
    intro v
    refine XP_forX K (fun z : Value × Value => c1 z.1 = true) (fun p z => [.ref (b + 17), .ref (b + 7), .int (nI n0), .int w, .int (nI p), z.1, z.2]) (fun p => bst G b (shU s v (adP f K w p (s.1 18)) (adF f w p (s.1 19)) (adB f K w p (s.1 20)))) ?_ ?_ 0 (Nat.zero_le _) (UV, UV) rfl
    · intro p hp z hz
      obtain ⟨k, hk, e, hq⟩ := qp_of hK hB hp
      refine ⟨(.int (nI k), .int (nI K)), rfl, ?_⟩
      have e1 : ¬ nI K ≤ nI p := nI_ge hp (by omega)
      have i1 : inb (nI (n0 + p)) 40 = true := inb_nI (by omega) (by omega)
      have i2 : (nI (n0 + p)).toNatClampNeg = n0 + p := nI_clamp (by omega)
      have i3 : inb (nI k) 5 = true := inb_nI (by omega) (by omega)
      have i4 : (nI k).toNatClampNeg = k := nI_clamp (by omega)
      have i5 : inb (nI (5 * k + p)) 25 = true := inb_nI (by omega) (by omega)
      have i6 : (nI (5 * k + p)).toNatClampNeg = 5 * k + p := nI_clamp (by omega)
      have e2 := hf p hp
      have a1 := adP_k (K := K) (w := w) (P := s.1 18) hq
      have a2 := adF_k (w := w) (F := s.1 19) hq (by omega)
      have hi := hin p k hp hk hq
      refine Eq.trans (by first | exact x140_13 | exact x140_13 (rf_ref _) | exact x140_13 rfl) ?_
      simp [x140_0, x140_1, x140_2, x140_5, x140_6, x140_7, x140_10, x140_11, x140_15, x140_16, x140_19, x140_22, x140_23, x140_24, x140_26, x140_27, x140_28, x140_30, x140_31, x140_34, x140_36, x140_37, x140_38, x140_39, x140_40, x140_43, x140_44, x140_45, x140_47, x140_48, x140_49, x140_50, x140_51, x140_52, x140_55, x140_56, x140_58, x140_59, x140_61, x140_62, x140_63, x140_64, x140_65, x140_66, x140_67, x140_69, x140_70, x140_71, x140_75, x140_76, x140_79, x140_82, x140_83, x140_86, x140_87, x140_89, x140_90, x140_91, x140_92, x140_94, x140_95, x140_96, x140_97, x140_98, x140_99, x140_100, x140_101, x140_102, x140_105, x140_108, x140_111, x140_114, bst_T0, bst_T, bst_N, bst_I0, bst_I, bst_R0, bst_R, bst_B, bst_X, bst_S, bst_A, bst_sI, bst_sI0, bst_sC, bst_sY, bst_sE, bI_s, bI_o, bI_2, bI_bI, bC_1, bY_1, bE_1, bT, bN, bR, rf_ref, rf_va, rf_null, c1_int, c1_ref, c1_UV, rvo_n, rvo_r, c1_null, c1_va, up_s, up_o, va_rf_some, va_rf_none, litA, litB, litM, nI_add, okZ_0, okZ_1, okZ_zb, zb_0, gB_add, inb_lit, cl_lit, Nat.lt_irrefl, ↓reduceIte, if_true, if_false, RP_v, RP_n, shU_17, shU_18, shU_19, shU_20, shU_o, shU_2, shU_w17, shU_w18, shU_w19, shU_w20, va_up_up, h3, e1, i1, i2, i3, i4, i5, i6, e2, e, a1, a2, hb, hz, hi, adC_B, nI_1]
    · intro z hz
      refine Eq.trans (by first | exact x140_13 | exact x140_13 (rf_ref _) | exact x140_13 rfl) ?_
      simp [x140_15, x140_16, x140_19, x140_22, x140_114, bst_T0, bst_T, bst_N, bst_I0, bst_I, bst_R0, bst_R, bst_B, bst_X, bst_S, bst_A, bst_sI, bst_sI0, bst_sC, bst_sY, bst_sE, bI_s, bI_o, bI_2, bI_bI, bC_1, bY_1, bE_1, bT, bN, bR, rf_ref, rf_va, rf_null, c1_int, c1_ref, c1_UV, rvo_n, rvo_r, c1_null, c1_va, up_s, up_o, va_rf_some, va_rf_none, litA, litB, litM, nI_add, okZ_0, okZ_1, okZ_zb, zb_0, gB_add, inb_lit, cl_lit, Nat.lt_irrefl, ↓reduceIte, if_true, if_false, RP_v, RP_n, shU_17, shU_18, shU_19, shU_20, shU_o, shU_2, shU_w17, shU_w18, shU_w19, shU_w20, va_up_up, h3]
  have e0 : ∀ v, bst G b (bI s 17 (va_up (s.1 17) 4 v)) = bst G b (shU s v (adP f K w 0 (s.1 18)) (adF f w 0 (s.1 19)) (adB f K w 0 (s.1 20))) := by
    intro v
    rw [adP_0, adF_0, adB_0]
    congr 1
    have := shU_id (s := bI s 17 (va_up (s.1 17) 4 v))
    rw [← this]
    rw [bI_s, bI_o (by decide), bI_o (by decide), bI_o (by decide), up_s]
    unfold shU
    rw [bI_s, bI_bI, va_up_up]
  simp [x140_0, x140_1, x140_2, x140_5, x140_6, x140_7, x140_10, x140_11, bst_T0, bst_T, bst_N, bst_I0, bst_I, bst_R0, bst_R, bst_B, bst_X, bst_S, bst_A, bst_sI, bst_sI0, bst_sC, bst_sY, bst_sE, bI_s, bI_o, bI_2, bI_bI, bC_1, bY_1, bE_1, bT, bN, bR, rf_ref, rf_va, rf_null, c1_int, c1_ref, c1_UV, rvo_n, rvo_r, c1_null, c1_va, up_s, up_o, va_rf_some, va_rf_none, litA, litB, litM, nI_add, okZ_0, okZ_1, okZ_zb, zb_0, gB_add, inb_lit, cl_lit, Nat.lt_irrefl, ↓reduceIte, if_true, if_false, RP_v, RP_n, hb, e0, hl]
end

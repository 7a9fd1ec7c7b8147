/-! PLAIN LAW: sums of weights -/
theorem nI_sub_pos {a b : Nat} (ha : a < 2 ^ 30) (hb : b < 2 ^ 30) : (0 < nI a - nI b) ↔ b < a := by
  rw [Int32.lt_iff_toInt_lt, Int32.toInt_sub, nI_toInt (by omega), nI_toInt (by omega)]
  have h0 : (0 : Int32).toInt = 0 := rfl
  rw [h0]
  have : ((a : Int) - (b : Int)).bmod (2 ^ 32) = (a : Int) - (b : Int) := Int.bmod_eq_of_le (by omega) (by omega)
  rw [this]
  omega
def sN (f : Nat → Nat) : Nat → Nat
  | 0 => 0
  | n + 1 => sN f n + f n
theorem sm_nI {f : Nat → Int32} {g : Nat → Nat} {n : Nat} (h : ∀ a, a < n → f a = nI (g a)) : sm f n = nI (sN g n) := by
  induction n with
  | zero => rfl
  | succ n ih => unfold sm sN; rw [ih (fun a ha => h a (by omega)), h n (by omega), nI_add]
theorem sN_le {g : Nat → Nat} {n M : Nat} (h : ∀ a, a < n → g a ≤ M) : sN g n ≤ n * M := by
  induction n with
  | zero => exact Nat.zero_le _
  | succ n ih => unfold sN; have := ih (fun a ha => h a (by omega)); have := h n (by omega); rw [Nat.succ_mul]; omega
theorem sm_bd {f : Nat → Int32} {n M : Nat} (h : ∀ a, a < n → ∃ x, x ≤ M ∧ f a = nI x) : ∃ x, x ≤ n * M ∧ sm f n = nI x := by
  have hg : ∀ a, a < n → f a = nI (cl (f a)) ∧ cl (f a) ≤ M ∨ 2 ^ 31 ≤ M := fun a ha => by
    obtain ⟨x, hx, e⟩ := h a ha
    by_cases q : 2 ^ 31 ≤ M
    · exact Or.inr q
    · refine Or.inl ?_
      have : cl (f a) = x := by rw [e]; exact nI_clamp (by omega)
      rw [this]; exact ⟨e, hx⟩
  clear hg
  induction n with
  | zero => exact ⟨0, Nat.zero_le _, rfl⟩
  | succ n ih =>
    obtain ⟨x, hx, e⟩ := ih (fun a ha => h a (by omega))
    obtain ⟨y, hy, e2⟩ := h n (by omega)
    exact ⟨x + y, by rw [Nat.succ_mul]; omega, by unfold sm; rw [e, e2, nI_add]⟩
theorem m_sub0 {a b : Int32} : a - b = 0 ↔ a = b := by
  constructor
  · intro h; grind
  · intro h; subst h; exact Int32.sub_self a
theorem sm_sub {f g h : Nat → Int32} {n : Nat} (e : ∀ a, a < n → h a = f a - g a) : sm h n = sm f n - sm g n := by
  induction n with
  | zero => exact (Int32.sub_self 0).symm
  | succ n ih =>
    unfold sm
    rw [ih (fun a ha => e a (by omega)), e n (by omega)]
    grind
def wOK (w : Rw) (A : Nat) : Prop := ∀ a, a < A → ∃ x, x ≤ 9 ∧ w a = nI x
section
variable {c w r : Rw} {K A k l : Nat}
theorem bef_bd (hw : wOK w A) : ∃ x, x ≤ A * 9 ∧ bef c w r A k l = nI x := sm_bd fun a ha => by
  split
  · exact hw a ha
  · exact ⟨0, by omega, rfl⟩
theorem fis_bd {p : Nat} (hw : wOK w A) : ∃ x, x ≤ A * 9 ∧ fis c w r A k p = nI x := sm_bd fun a ha => by
  split
  · exact hw a ha
  · exact ⟨0, by omega, rfl⟩
theorem pts_bd (hK : K ≤ 5) (hw : wOK w A) (hB : ∀ a, a < A → BP (bal r a) K) (hk : k < K) : ∃ x, x ≤ A * 36 ∧ pts c w r K A k = nI x := sm_bd fun a ha => by
  split
  · obtain ⟨x, hx, e⟩ := hw a ha
    have hp := plc_ltK hK ((hB a ha).2 k hk)
    have e1 : nI K - 1 - nI (plc (bal r a) (nI k)) = nI (K - 1 - plc (bal r a) (nI k)) := by
      have : nI K - 1 = nI (K - 1) := nI_sub (b := 1) (by omega)
      rw [this, nI_sub (by omega)]
    refine ⟨x * (K - 1 - plc (bal r a) (nI k)), ?_, by rw [e, e1, pk_mul]⟩
    have : K - 1 - plc (bal r a) (nI k) ≤ 4 := by omega
    calc x * (K - 1 - plc (bal r a) (nI k)) ≤ 9 * 4 := Nat.mul_le_mul hx this
      _ = 36 := rfl
  · exact ⟨0, by omega, rfl⟩
theorem led_bef (hK : K ≤ 5) (hB : ∀ a, a < A → BP (bal r a) K) (hk : k < K) (hl : l < K) (hne : ¬ k = l) : led c w r A k l = bef c w r A k l - bef c w r A l k := by
  refine sm_sub fun a ha => ?_
  have h1 := plc_ltK hK ((hB a ha).2 k hk)
  have h2 := plc_ltK hK ((hB a ha).2 l hl)
  have hd : ¬ plc (bal r a) (nI k) = plc (bal r a) (nI l) := fun e => by
    have a1 := plc_lt (f := bal r a) (k := nI k) (by omega)
    have a2 := plc_lt (f := bal r a) (k := nI l) (by omega)
    rw [e] at a1
    exact hne ((nI_eq (by omega) (by omega)).mp (a1.symm.trans a2))
  by_cases q : cnB c r a = true
  · by_cases q2 : plc (bal r a) (nI k) < plc (bal r a) (nI l)
    · rw [if_pos q, if_pos q2, if_pos ⟨q, q2⟩, if_neg (by omega), Int32.sub_zero]
    · rw [if_pos q, if_neg q2, if_neg (by omega), if_pos ⟨q, by omega⟩, Int32.zero_sub]
  · rw [if_neg q, if_neg (fun z => q z.1), if_neg (fun z => q z.1)]; rfl
theorem bts_bef (hK : K ≤ 5) (hA : A ≤ 8) (hw : wOK w A) (hB : ∀ a, a < A → BP (bal r a) K) (hk : k < K) (hl : l < K) : bts c w r A k l = decide (bef c w r A l k < bef c w r A k l) := by
  unfold bts
  by_cases e : k = l
  · subst e; simp
  · obtain ⟨x, hx, e1⟩ := bef_bd (c := c) (r := r) (k := k) (l := l) hw
    obtain ⟨y, hy, e2⟩ := bef_bd (c := c) (r := r) (k := l) (l := k) hw
    have h3 := nI_sub_pos (a := x) (b := y) (by omega) (by omega)
    have h4 := nI_ltI (a := y) (b := x) (by omega) (by omega)
    rw [led_bef hK hB hk hl e, e1, e2]
    simp [e, h3, h4]
/-- by how much one class is ahead of another one -/
def moF (c w r : Rw) (K A : Nat) (t k l : Nat) : Int32 :=
  if t = 1 then (match fst (fun p => decide (¬ fis c w r A k p = fis c w r A l p)) K with
    | some p => fis c w r A k p - fis c w r A l p
    | none => 0)
  else if t = 2 ∧ ¬ wns c w r K A k = wns c w r K A l then nI (wns c w r K A k) - nI (wns c w r K A l)
  else pts c w r K A k - pts c w r K A l
theorem mo_btr {t : Nat} (ht : t < 3) (hK : K ≤ 5) (hA : A ≤ 8) (hw : wOK w A) (hB : ∀ a, a < A → BP (bal r a) K) (hk : k < K) (hl : l < k) : decide (0 < moF c w r K A t k l) = btr c w r K A (nI t) k l := by
  unfold moF btr
  have e1 : (nI t = 1) = (t = 1) := nI_eqN (b := 1) (by omega) (by omega)
  have e2 : (nI t = 2) = (t = 2) := nI_eqN (b := 2) (by omega) (by omega)
  simp only [e1, e2]
  have hkl : decide (k < l) = false := decide_eq_false (by omega)
  by_cases t1 : t = 1
  · rw [if_pos t1, if_pos t1]
    cases e : fst (fun p => decide (¬ fis c w r A k p = fis c w r A l p)) K with
    | none => rw [hkl]; rfl
    | some p =>
      obtain ⟨x, hx, e3⟩ := fis_bd (c := c) (r := r) (k := k) (p := p) hw
      obtain ⟨y, hy, e4⟩ := fis_bd (c := c) (r := r) (k := l) (p := p) hw
      have h3 := nI_sub_pos (a := x) (b := y) (by omega) (by omega)
      have h4 := nI_ltI (a := y) (b := x) (by omega) (by omega)
      show decide (0 < fis c w r A k p - fis c w r A l p) = decide (fis c w r A l p < fis c w r A k p)
      simp only [e3, e4, h3, h4]
  · rw [if_neg t1, if_neg t1]
    by_cases t2 : t = 2 ∧ ¬ wns c w r K A k = wns c w r K A l
    · rw [if_pos t2, if_pos t2]
      have w1 : wns c w r K A k ≤ K := wns_le
      have w2 : wns c w r K A l ≤ K := wns_le
      have h3 := nI_sub_pos (a := wns c w r K A k) (b := wns c w r K A l) (by omega) (by omega)
      simp [h3]
    · rw [if_neg t2, if_neg t2]
      obtain ⟨x, hx, e3⟩ := pts_bd (c := c) (r := r) (k := k) hK hw hB hk
      obtain ⟨y, hy, e4⟩ := pts_bd (c := c) (r := r) (k := l) hK hw hB (by omega)
      have h3 := nI_sub_pos (a := x) (b := y) (by omega) (by omega)
      have h4 := nI_ltI (a := y) (b := x) (by omega) (by omega)
      have h5 := nI_eq (a := x) (b := y) (by omega) (by omega)
      rw [e3, e4]
      by_cases q : x = y
      · subst q; simp [hkl]
      · simp [h3, h4, h5, q]
end
/-! the component: what a sheet tells -/
def SHH (G : Hp) (q : Nat) (c w r : Rw) (K A : Nat) : Prop := gT G q = 7 ∧ gR G q 0 = some (q + 1) ∧ gR G q 1 = some (q + 2) ∧ gR G q 2 = some (q + 3) ∧ gT G (q + 1) = 100 ∧ gT G (q + 2) = 100 ∧ gT G (q + 3) = 100 ∧ gN G (q + 1) = 5 ∧ gN G (q + 2) = 25 ∧ gN G (q + 3) = 25 ∧
  gI G q 3 = nI K ∧ (∀ k, k < K → gI G (q + 1) k = pts c w r K A k) ∧ (∀ k p, k < K → p < K → gI G (q + 2) (5 * k + p) = fis c w r A k p) ∧ (∀ k l, k < K → l < K → gI G (q + 3) (5 * k + l) = bef c w r A k l) ∧
  K ≤ 5 ∧ A ≤ 8 ∧ wOK w A ∧ ∀ a, a < A → BP (bal r a) K
section
variable {d q : Nat} {G : Hp} {c w r : Rw} {K A k l : Nat}
set_option maxHeartbeats 4000000
set_option maxRecDepth 20000
theorem s_beatsC (h : SHH G q c w r K A) (hk : k < K) (hl : l < K) : XP PP d 142 0 [.ref q, .int (nI k), .int (nI l)] [] G = some (.inl (some (.int (zb (bts c w r A k l)))), G) := by
  obtain ⟨qT, qR0, qR1, qR2, qT1, qT2, qT3, qN1, qN2, qN3, qK, qP, qF, qB, hK, hA, hw, hB⟩ := h
  have i1 : inb (nI (5 * k + l)) 25 = true := inb_nI (by omega) (by omega)
  have i2 : (nI (5 * k + l)).toNatClampNeg = 5 * k + l := nI_clamp (by omega)
  have i3 : inb (nI (5 * l + k)) 25 = true := inb_nI (by omega) (by omega)
  have i4 : (nI (5 * l + k)).toNatClampNeg = 5 * l + k := nI_clamp (by omega)
  have e := bts_bef (c := c) hK hA hw hB hk hl
  by_cases z : bef c w r A l k < bef c w r A k l
  · simp [x142_0, x142_1, x142_4, x142_5, x142_6, x142_7, x142_8, x142_9, x142_10, x142_11, x142_14, x142_15, x142_16, x142_17, x142_18, x142_19, x142_20, x142_23, x142_24, x142_27, x142_28, rf_ref, rf_va, rf_null, c1_int, c1_ref, c1_UV, rvo_n, rvo_r, c1_null, c1_va, up_s, up_o, va_rf_some, va_rf_none, litA, litB, litM, nI_add, okZ_0, okZ_1, okZ_zb, zb_0, gB_add, inb_lit, cl_lit, Nat.lt_irrefl, ↓reduceIte, if_true, if_false, RP_v, RP_n, qT, qR2, qT3, qN3, i1, i2, i3, i4, qB k l hk hl, qB l k hl hk, e, z, Int32.not_le.mpr z, zb]
  · simp [x142_0, x142_1, x142_4, x142_5, x142_6, x142_7, x142_8, x142_9, x142_10, x142_11, x142_14, x142_15, x142_16, x142_17, x142_18, x142_19, x142_20, x142_23, x142_24, x142_27, x142_28, rf_ref, rf_va, rf_null, c1_int, c1_ref, c1_UV, rvo_n, rvo_r, c1_null, c1_va, up_s, up_o, va_rf_some, va_rf_none, litA, litB, litM, nI_add, okZ_0, okZ_1, okZ_zb, zb_0, gB_add, inb_lit, cl_lit, Nat.lt_irrefl, ↓reduceIte, if_true, if_false, RP_v, RP_n, qT, qR2, qT3, qN3, i1, i2, i3, i4, qB k l hk hl, qB l k hl hk, e, z, Int32.not_lt.mp z, zb]
theorem s_winsC (h : SHH G q c w r K A) (hk : k < K) : XP PP (d + 1) 141 0 [.ref q, .int (nI k), UV, UV] [] G = some (.inl (some (.int (nI (wns c w r K A k)))), G) := by
  have h' := h
  obtain ⟨qT, qR0, qR1, qR2, qT1, qT2, qT3, qN1, qN2, qN3, qK, qP, qF, qB, hK, hA, hw, hB⟩ := h
  have hl : XP PP (d + 1) 141 4 [.ref q, .int (nI k), .int 0, .int 0] [] G = some (.inl (some (.int (nI (wns c w r K A k)))), G) := by
    refine XP_for K (fun j => [.ref q, .int (nI k), .int (nI (cnt (bts c w r A k) j)), .int (nI j)]) (fun _ => G) ?_ ?_ 0 (Nat.zero_le _)
    · intro j hj
      have e1 : ¬ nI K ≤ nI j := nI_ge hj (by omega)
      have sb := fun d => s_beatsC (d := d) h' hk hj
      refine Eq.trans (by first | exact x141_4 | exact x141_4 (rf_ref _) | exact x141_4 rfl) ?_
      by_cases z : bts c w r A k j = true
      · simp [x141_0, x141_1, x141_2, x141_3, x141_5, x141_6, x141_9, x141_12, x141_13, x141_14, x141_15, x141_18, x141_21, x141_24, x141_27, x141_30, x141_31, rf_ref, rf_va, rf_null, c1_int, c1_ref, c1_UV, rvo_n, rvo_r, c1_null, c1_va, up_s, up_o, va_rf_some, va_rf_none, litA, litB, litM, nI_add, okZ_0, okZ_1, okZ_zb, zb_0, gB_add, inb_lit, cl_lit, Nat.lt_irrefl, ↓reduceIte, if_true, if_false, RP_v, RP_n, qT, qK, e1, sb, z, cnt, zb, nI_1]
      · simp [x141_0, x141_1, x141_2, x141_3, x141_5, x141_6, x141_9, x141_12, x141_13, x141_14, x141_15, x141_18, x141_21, x141_24, x141_27, x141_30, x141_31, rf_ref, rf_va, rf_null, c1_int, c1_ref, c1_UV, rvo_n, rvo_r, c1_null, c1_va, up_s, up_o, va_rf_some, va_rf_none, litA, litB, litM, nI_add, okZ_0, okZ_1, okZ_zb, zb_0, gB_add, inb_lit, cl_lit, Nat.lt_irrefl, ↓reduceIte, if_true, if_false, RP_v, RP_n, qT, qK, e1, sb, z, cnt, zb, nI_1]
    · refine Eq.trans (by first | exact x141_4 | exact x141_4 (rf_ref _) | exact x141_4 rfl) ?_
      simp [x141_0, x141_1, x141_2, x141_3, x141_5, x141_6, x141_9, x141_12, x141_13, x141_14, x141_15, x141_18, x141_21, x141_24, x141_27, x141_30, x141_31, rf_ref, rf_va, rf_null, c1_int, c1_ref, c1_UV, rvo_n, rvo_r, c1_null, c1_va, up_s, up_o, va_rf_some, va_rf_none, litA, litB, litM, nI_add, okZ_0, okZ_1, okZ_zb, zb_0, gB_add, inb_lit, cl_lit, Nat.lt_irrefl, ↓reduceIte, if_true, if_false, RP_v, RP_n, qT, qK, wns]
  simp [x141_0, x141_1, x141_2, x141_3, rf_ref, rf_va, rf_null, c1_int, c1_ref, c1_UV, rvo_n, rvo_r, c1_null, c1_va, up_s, up_o, va_rf_some, va_rf_none, litA, litB, litM, nI_add, okZ_0, okZ_1, okZ_zb, zb_0, gB_add, inb_lit, cl_lit, Nat.lt_irrefl, ↓reduceIte, if_true, if_false, RP_v, RP_n, hl]
theorem s_more1 {ty : Nat} (h : SHH G q c w r K A) (hk : k < K) (hl : l < K) : XP PP d 304 0 [.ref ty, .ref q, .int (nI k), .int (nI l)] [] G = some (.inl (some (.int (pts c w r K A k - pts c w r K A l))), G) := by
  obtain ⟨qT, qR0, qR1, qR2, qT1, qT2, qT3, qN1, qN2, qN3, qK, qP, qF, qB, hK, hA, hw, hB⟩ := h
  have i1 : inb (nI k) 5 = true := inb_nI (by omega) (by omega)
  have i2 : (nI k).toNatClampNeg = k := nI_clamp (by omega)
  have i3 : inb (nI l) 5 = true := inb_nI (by omega) (by omega)
  have i4 : (nI l).toNatClampNeg = l := nI_clamp (by omega)
  simp [x304_0, x304_1, x304_4, x304_5, x304_6, x304_7, x304_10, x304_11, x304_12, x304_13, rf_ref, rf_va, rf_null, c1_int, c1_ref, c1_UV, rvo_n, rvo_r, c1_null, c1_va, up_s, up_o, va_rf_some, va_rf_none, litA, litB, litM, nI_add, okZ_0, okZ_1, okZ_zb, zb_0, gB_add, inb_lit, cl_lit, Nat.lt_irrefl, ↓reduceIte, if_true, if_false, RP_v, RP_n, qT, qR0, qT1, qN1, i1, i2, i3, i4, qP k hk, qP l hl]
theorem s_more2 {ty : Nat} (h : SHH G q c w r K A) (hk : k < K) (hl : l < K) : XP PP d 305 0 [.ref ty, .ref q, .int (nI k), .int (nI l), UV, UV] [] G = some (.inl (some (.int (moF c w r K A 1 k l))), G) := by
  obtain ⟨qT, qR0, qR1, qR2, qT1, qT2, qT3, qN1, qN2, qN3, qK, qP, qF, qB, hK, hA, hw, hB⟩ := h
  have hl2 : XP PP d 305 3 [.ref ty, .ref q, .int (nI k), .int (nI l), .int 0, UV] [] G = some (.inl (some (.int (moF c w r K A 1 k l))), G) := by
    have : ∀ e : Value, XP PP d 305 3 [.ref ty, .ref q, .int (nI k), .int (nI l), .int 0, e] [] G = (match fst (fun p => decide (¬ fis c w r A k p = fis c w r A l p)) K with | some p => some (.inl (some (.int (fis c w r A k p - fis c w r A l p))), G) | none => some (.inl (some (.int 0)), G)) := by
      intro e
      refine XP_fstX (fun _ : Value => True) K (fun p => decide (¬ fis c w r A k p = fis c w r A l p)) (fun p e => [.ref ty, .ref q, .int (nI k), .int (nI l), .int (nI p), e]) (fun _ => G) (fun p => some (.inl (some (.int (fis c w r A k p - fis c w r A l p))), G)) ?_ ?_ ?_ e trivial
      · intro j hj hx e _
        have hx' := of_decide_eq_true hx
        have hx2 : ¬ fis c w r A k j - fis c w r A l j = 0 := fun z => hx' (m_sub0.mp z)
        have e1 : ¬ nI K ≤ nI j := nI_ge hj (by omega)
        have i1 : inb (nI (5 * k + j)) 25 = true := inb_nI (by omega) (by omega)
        have i2 : (nI (5 * k + j)).toNatClampNeg = 5 * k + j := nI_clamp (by omega)
        have i3 : inb (nI (5 * l + j)) 25 = true := inb_nI (by omega) (by omega)
        have i4 : (nI (5 * l + j)).toNatClampNeg = 5 * l + j := nI_clamp (by omega)
        refine Eq.trans (by first | exact x305_3 | exact x305_3 (rf_ref _) | exact x305_3 rfl) ?_
        simp [x305_0, x305_1, x305_5, x305_6, x305_9, x305_12, x305_13, x305_16, x305_17, x305_18, x305_19, x305_21, x305_22, x305_23, x305_24, x305_27, x305_28, x305_29, x305_30, x305_32, x305_33, x305_34, x305_35, x305_37, x305_39, x305_42, x305_44, x305_45, x305_48, x305_51, x305_52, rf_ref, rf_va, rf_null, c1_int, c1_ref, c1_UV, rvo_n, rvo_r, c1_null, c1_va, up_s, up_o, va_rf_some, va_rf_none, litA, litB, litM, nI_add, okZ_0, okZ_1, okZ_zb, zb_0, gB_add, inb_lit, cl_lit, Nat.lt_irrefl, ↓reduceIte, if_true, if_false, RP_v, RP_n, qT, qK, qR1, qT2, qN2, e1, i1, i2, i3, i4, qF k j hk hj, qF l j hl hj, hx2]
      · intro j hj hx e _
        have hx' := of_decide_eq_false hx
        rw [Decidable.not_not] at hx'
        have e1 : ¬ nI K ≤ nI j := nI_ge hj (by omega)
        have i1 : inb (nI (5 * k + j)) 25 = true := inb_nI (by omega) (by omega)
        have i2 : (nI (5 * k + j)).toNatClampNeg = 5 * k + j := nI_clamp (by omega)
        have i3 : inb (nI (5 * l + j)) 25 = true := inb_nI (by omega) (by omega)
        have i4 : (nI (5 * l + j)).toNatClampNeg = 5 * l + j := nI_clamp (by omega)
        refine ⟨.int 0, trivial, ?_⟩
        refine Eq.trans (by first | exact x305_3 | exact x305_3 (rf_ref _) | exact x305_3 rfl) ?_
        simp [x305_0, x305_1, x305_5, x305_6, x305_9, x305_12, x305_13, x305_16, x305_17, x305_18, x305_19, x305_21, x305_22, x305_23, x305_24, x305_27, x305_28, x305_29, x305_30, x305_32, x305_33, x305_34, x305_35, x305_37, x305_39, x305_42, x305_44, x305_45, x305_48, x305_51, x305_52, rf_ref, rf_va, rf_null, c1_int, c1_ref, c1_UV, rvo_n, rvo_r, c1_null, c1_va, up_s, up_o, va_rf_some, va_rf_none, litA, litB, litM, nI_add, okZ_0, okZ_1, okZ_zb, zb_0, gB_add, inb_lit, cl_lit, Nat.lt_irrefl, ↓reduceIte, if_true, if_false, RP_v, RP_n, qT, qK, qR1, qT2, qN2, e1, i1, i2, i3, i4, qF k j hk hj, qF l j hl hj, hx', nI_1]
      · intro e _
        refine Eq.trans (by first | exact x305_3 | exact x305_3 (rf_ref _) | exact x305_3 rfl) ?_
        simp [x305_0, x305_1, x305_5, x305_6, x305_9, x305_12, x305_13, x305_16, x305_17, x305_18, x305_19, x305_21, x305_22, x305_23, x305_24, x305_27, x305_28, x305_29, x305_30, x305_32, x305_33, x305_34, x305_35, x305_37, x305_39, x305_42, x305_44, x305_45, x305_48, x305_51, x305_52, rf_ref, rf_va, rf_null, c1_int, c1_ref, c1_UV, rvo_n, rvo_r, c1_null, c1_va, up_s, up_o, va_rf_some, va_rf_none, litA, litB, litM, nI_add, okZ_0, okZ_1, okZ_zb, zb_0, gB_add, inb_lit, cl_lit, Nat.lt_irrefl, ↓reduceIte, if_true, if_false, RP_v, RP_n, qT, qK]
    rw [this UV]
    unfold moF
    rw [if_pos rfl]
    cases fst (fun p => decide (¬ fis c w r A k p = fis c w r A l p)) K <;> rfl
  simp [x305_0, x305_1, rf_ref, rf_va, rf_null, c1_int, c1_ref, c1_UV, rvo_n, rvo_r, c1_null, c1_va, up_s, up_o, va_rf_some, va_rf_none, litA, litB, litM, nI_add, okZ_0, okZ_1, okZ_zb, zb_0, gB_add, inb_lit, cl_lit, Nat.lt_irrefl, ↓reduceIte, if_true, if_false, RP_v, RP_n, hl2]
theorem s_more3 {ty : Nat} (h22 : gT G (gA G 22) = 2) (h : SHH G q c w r K A) (hk : k < K) (hl : l < K) : XP PP (d + 8) 303 0 [.ref ty, .ref q, .int (nI k), .int (nI l), UV] [] G = some (.inl (some (.int (moF c w r K A 2 k l))), G) := by
  have h' := h
  obtain ⟨qT, qR0, qR1, qR2, qT1, qT2, qT3, qN1, qN2, qN3, qK, qP, qF, qB, hK, hA, hw, hB⟩ := h
  have w1 := fun d => s_winsC (d := d) h' hk
  have w2 := fun d => s_winsC (d := d) h' hl
  have m1 := fun d => s_more1 (d := d) (ty := gA G 22) h' hk hl
  have b1 : wns c w r K A k ≤ K := wns_le
  have b2 : wns c w r K A l ≤ K := wns_le
  unfold moF
  by_cases z : wns c w r K A k = wns c w r K A l
  · simp [x303_0, x303_1, x303_2, x303_5, x303_6, x303_7, x303_10, x303_11, x303_13, x303_15, x303_18, x303_20, x303_23, x303_26, x303_27, x303_28, x303_29_2, x303_29_3, x303_29_4, x303_32, rf_ref, rf_va, rf_null, c1_int, c1_ref, c1_UV, rvo_n, rvo_r, c1_null, c1_va, up_s, up_o, va_rf_some, va_rf_none, litA, litB, litM, nI_add, okZ_0, okZ_1, okZ_zb, zb_0, gB_add, inb_lit, cl_lit, Nat.lt_irrefl, ↓reduceIte, if_true, if_false, RP_v, RP_n, qT, w1, w2, m1, z, h22]
  · have z2 : ¬ nI (wns c w r K A k) - nI (wns c w r K A l) = 0 := fun e => z ((nI_eq (by omega) (by omega)).mp (m_sub0.mp e))
    simp [x303_0, x303_1, x303_2, x303_5, x303_6, x303_7, x303_10, x303_11, x303_13, x303_15, x303_18, x303_20, x303_23, x303_26, x303_27, x303_28, x303_29_2, x303_29_3, x303_29_4, x303_32, rf_ref, rf_va, rf_null, c1_int, c1_ref, c1_UV, rvo_n, rvo_r, c1_null, c1_va, up_s, up_o, va_rf_some, va_rf_none, litA, litB, litM, nI_add, okZ_0, okZ_1, okZ_zb, zb_0, gB_add, inb_lit, cl_lit, Nat.lt_irrefl, ↓reduceIte, if_true, if_false, RP_v, RP_n, qT, w1, w2, m1, z, z2, h22]
end

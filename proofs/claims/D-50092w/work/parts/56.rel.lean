/-! a bus and the twin's row: which int lies where -/
def pos (K A j k : Nat) : Option Nat :=
  if j = 0 then (if k = 18 then some 0 else if k = 23 then some 2 else if k = 25 then some 3 else if k = 24 then some 4 else if k = 22 then some 5 else if k = 20 then some 6 else if k = 21 then some 7 else none)
  else if j ≤ 6 then (if k < 8 then some (12 + 8 * j + k) else none)
  else if j = 7 then (if k / 5 < A ∧ k % 5 < K then some (78 + k) else none)
  else if j = 8 then (if k < K then some (10 + k) else none)
  else if j = 9 then (if k < K then some (15 + k) else none)
  else if j = 10 then (if k < 5 then some (68 + k) else none)
  else if j = 11 then (if k < 5 then some (73 + k) else none)
  else if j = 12 then (if k < 360 then some (358 + k) else none)
  else none
def ipos (x : Nat) : Nat × Nat :=
  if x < 10 then (0, if x = 0 then 18 else if x = 2 then 23 else if x = 3 then 25 else if x = 4 then 24 else if x = 5 then 22 else if x = 6 then 20 else 21)
  else if x < 15 then (8, x - 10) else if x < 20 then (9, x - 15) else if x < 68 then ((x - 12) / 8, (x - 12) % 8) else if x < 73 then (10, x - 68) else if x < 78 then (11, x - 73)
  else if x < 118 then (7, x - 78) else (12, x - 358)
theorem ipos_pos {K A j k x : Nat} (hK : K ≤ 5) (hA : A ≤ 8) (h : pos K A j k = some x) : ipos x = (j, k) := by
  unfold pos at h
  by_cases j0 : j = 0
  · subst j0
    rw [if_pos rfl] at h
    repeat' split at h
    all_goals first | (cases h; rename_i e; subst e; rfl) | cases h
  rw [if_neg j0] at h
  by_cases j6 : j ≤ 6
  · rw [if_pos j6] at h
    split at h
    · cases h
      unfold ipos
      rw [if_neg (by omega), if_neg (by omega), if_neg (by omega), if_pos (by omega)]
      congr 1 <;> omega
    · cases h
  rw [if_neg j6] at h
  by_cases j7 : j = 7
  · subst j7
    rw [if_pos rfl] at h
    split at h
    · cases h
      unfold ipos
      rw [if_neg (by omega), if_neg (by omega), if_neg (by omega), if_neg (by omega), if_neg (by omega), if_neg (by omega), if_pos (by omega)]
      congr 1; omega
    · cases h
  rw [if_neg j7] at h
  by_cases j8 : j = 8
  · subst j8
    rw [if_pos rfl] at h
    split at h
    · cases h
      unfold ipos
      rw [if_neg (by omega), if_pos (by omega)]
      congr 1; omega
    · cases h
  rw [if_neg j8] at h
  by_cases j9 : j = 9
  · subst j9
    rw [if_pos rfl] at h
    split at h
    · cases h
      unfold ipos
      rw [if_neg (by omega), if_neg (by omega), if_pos (by omega)]
      congr 1; omega
    · cases h
  rw [if_neg j9] at h
  by_cases j10 : j = 10
  · subst j10
    rw [if_pos rfl] at h
    split at h
    · cases h
      unfold ipos
      rw [if_neg (by omega), if_neg (by omega), if_neg (by omega), if_neg (by omega), if_pos (by omega)]
      congr 1; omega
    · cases h
  rw [if_neg j10] at h
  by_cases j11 : j = 11
  · subst j11
    rw [if_pos rfl] at h
    split at h
    · cases h
      unfold ipos
      rw [if_neg (by omega), if_neg (by omega), if_neg (by omega), if_neg (by omega), if_neg (by omega), if_pos (by omega)]
      congr 1; omega
    · cases h
  rw [if_neg j11] at h
  by_cases j12 : j = 12
  · subst j12
    rw [if_pos rfl] at h
    split at h
    · cases h
      unfold ipos
      rw [if_neg (by omega), if_neg (by omega), if_neg (by omega), if_neg (by omega), if_neg (by omega), if_neg (by omega), if_neg (by omega)]
      exact congrArg (Prod.mk 12) (by omega)
    · cases h
  rw [if_neg j12] at h
  cases h
theorem pos_rng {K A j k x : Nat} (hK : K ≤ 5) (hA : A ≤ 8) (h : pos K A j k = some x) : (x < 8 ∧ ¬ x = 1) ∨ (10 ≤ x ∧ x < 118) ∨ (358 ≤ x ∧ x < 718) := by
  unfold pos at h
  repeat' split at h
  all_goals first | (cases h; omega) | cases h
def BIr (s : Bs) (r : Rw) (K A : Nat) : Prop := ∀ j k x, pos K A j k = some x → s.1 j k = r x
section
variable {s : Bs} {r : Rw} {K A : Nat}
theorem BIr.up {j k x : Nat} {v : Int32} (hK : K ≤ 5) (hA : A ≤ 8) (h : BIr s r K A) (hp : pos K A j k = some x) : BIr (bI s j (va_up (s.1 j) k v)) (va_up r x v) K A := by
  intro i q y hq
  by_cases e : i = j ∧ q = k
  · obtain ⟨rfl, rfl⟩ := e
    rw [hp] at hq; cases hq
    rw [bI_s, up_s, up_s]
  · have hne : ¬ y = x := fun z => by
      subst z
      have := (ipos_pos hK hA hp).symm.trans (ipos_pos hK hA hq)
      have e1 := congrArg Prod.fst this
      have e2 := congrArg Prod.snd this
      exact e ⟨e1.symm, e2.symm⟩
    rw [up_o hne]
    by_cases ej : i = j
    · subst ej
      rw [bI_s, up_o (fun z => e ⟨rfl, z⟩)]
      exact h i q y hq
    · rw [bI_o ej]
      exact h i q y hq
theorem BIr.up_s {j k : Nat} {v : Int32} (h : BIr s r K A) (hp : pos K A j k = none) : BIr (bI s j (va_up (s.1 j) k v)) r K A := by
  intro i q y hq
  by_cases ej : i = j
  · subst ej
    rw [bI_s]
    by_cases e : q = k
    · subst e; rw [hp] at hq; cases hq
    · rw [up_o e]; exact h i q y hq
  · rw [bI_o ej]; exact h i q y hq
theorem BIr.row_s {j : Nat} {f : Rw} (h : BIr s r K A) (hj : 13 ≤ j) : BIr (bI s j f) r K A := by
  intro i q y hq
  by_cases ej : i = j
  · subst ej
    unfold pos at hq
    rw [if_neg (by omega), if_neg (by omega), if_neg (by omega), if_neg (by omega), if_neg (by omega), if_neg (by omega), if_neg (by omega), if_neg (by omega)] at hq
    cases hq
  · rw [bI_o ej]; exact h i q y hq
theorem BIr.up_r {x : Nat} {v : Int32} (hK : K ≤ 5) (hA : A ≤ 8) (h : BIr s r K A) (hx : x = 1 ∨ x = 8 ∨ x = 9 ∨ (118 ≤ x ∧ x < 358)) : BIr s (va_up r x v) K A := by
  intro i q y hq
  have := pos_rng hK hA hq
  rw [up_o (by omega)]
  exact h i q y hq
theorem BIr.of_s {s' : Bs} (h : BIr s r K A) (e : s'.1 = s.1) : BIr s' r K A := by intro i q y hq; rw [e]; exact h i q y hq
theorem BIr.ord {F T : Rw} (hK : K ≤ 5) (hA : A ≤ 8) (h : BIr s r K A) (hF : ∀ p, p < K → F p = T p) : BIr (bI s 8 F) (va_cpy T r 0 10 K) K A := by
  intro i q y hq
  unfold va_cpy
  by_cases e : i = 8
  · subst e
    have hq2 : q < K ∧ y = 10 + q := by
      unfold pos at hq
      simp only [show ¬ (8 = 0) by decide, show ¬ (8 ≤ 6) by decide, show ¬ (8 = 7) by decide, if_true, if_false] at hq
      split at hq
      · cases hq; exact ⟨by assumption, rfl⟩
      · cases hq
    rw [bI_s, if_pos (by omega), hq2.2, hF q hq2.1]
    congr 1; omega
  · rw [bI_o e]
    have := ipos_pos hK hA hq
    have hy : ¬ (10 ≤ y ∧ y < 10 + K) := fun z => by
      unfold ipos at this
      rw [if_neg (by omega), if_pos (by omega)] at this
      exact e (congrArg Prod.fst this).symm
    rw [if_neg hy]
    exact h i q y hq
end
/-- a request in the heap and in the row -/
def RQ (G : Hp) (q : Nat) (r : Rw) (i : Nat) : Prop := gT G q = 11 ∧ gI G q 0 = r (118 + 6 * i) ∧ gI G q 1 = r (118 + 6 * i + 1) ∧ gI G q 2 = r (118 + 6 * i + 2) ∧ gI G q 3 = r (118 + 6 * i + 3) ∧ gI G q 4 = r (118 + 6 * i + 5)
def skp (i k : Nat) : Nat := if k < i then k else k + 1
def BQ (G : Hp) (b : Nat) (s : Bs) (r : Rw) (n m : Nat) : Prop := gT G s.2.2.2.2 = 110 ∧ inB b s.2.2.2.2 = false ∧ m ≤ gN G s.2.2.2.2 ∧ (0 < m → gB G ≤ s.2.2.2.2) ∧ s.1 13 2 = nI m ∧ m ≤ 40 ∧
  ((s.2.2.2.1 = none ∧ r 8 = -1 ∧ n = m ∧ ∀ k, k < m → ∃ q, gR G s.2.2.2.2 k = some q ∧ inB b q = false ∧ RQ G q r k) ∨
   ∃ q i, s.2.2.2.1 = some q ∧ i < n ∧ r (118 + 6 * i) = r 8 ∧ n = m + 1 ∧ inB b q = false ∧ RQ G q r i ∧ s.1 0 19 = r (118 + 6 * i + 4) ∧ ∀ k, k < m → ∃ q, gR G s.2.2.2.2 k = some q ∧ inB b q = false ∧ RQ G q r (skp i k))
/-- the tally -/
def TYo (G : Hp) (b ty : Nat) (r : Rw) : Prop := inB b ty = false ∧ ∃ t, t < 3 ∧ r 1 = nI t ∧ gT G ty = 2 + t ∧ gI G ty 0 = nI t
/-- the bus at b, as s tells it, is the twin's row r -/
def BS (G : Hp) (b : Nat) (s : Bs) (c w r : Rw) (K A m : Nat) : Prop := gB G ≤ b ∧ SU G s.2.1 c w K A ∧ oB b s.2.1 ∧ s.1 17 3 = nI K ∧ BIr s r K A ∧ TYo G b s.2.2.1 r ∧ BQ G b s r (cl (r 9)) m
/-- what the setup must be -/
def CW (c w : Rw) (K A : Nat) : Prop := CF c K A ∧ wOK w A ∧ c 19 = -1
def C22 (G : Hp) : Prop := gA G 22 < gB G ∧ gT G (gA G 22) = 2
section
variable {d b : Nat} {G : Hp} {s : Bs} {c w r : Rw} {K A m : Nat}
theorem CW.K5 (h : CW c w K A) : K ≤ 5 := h.1.2.2.1
theorem CW.A8 (h : CW c w K A) : A ≤ 8 := h.1.2.2.2.2.2.1
theorem BS.V (h : BS G b s c w r K A m) (hC : CW c w K A) (hR : RJ r K A) : BV G b s c w r K A := by
  obtain ⟨h1, h2, h3, h4, h5, h6, h7⟩ := h
  have hA := hC.A8
  have hK := hC.K5
  refine ⟨h1, hK, hA, h2, h3, h4, fun a ha => ?_, fun a ha p hp => ?_, fun a ha => ⟨(hR.2.2.1 a ha).1, (hR.2.2.1 a ha).2⟩⟩
  · refine h5 3 a (36 + a) ?_
    unfold pos
    rw [if_neg (by omega), if_pos (by omega), if_pos (by omega)]
  · refine (h5 7 (5 * a + p) (78 + (5 * a + p)) ?_).trans ?_
    · unfold pos
      rw [if_neg (by omega), if_neg (by omega), if_pos rfl, if_pos (by omega)]
    · unfold bal
      congr 1; omega
end

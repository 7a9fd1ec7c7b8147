/-! PLAIN LAW: the twin's order by keys; the outcome's row -/
theorem nI_sub_lt {K k l : Nat} (hK : K < 2 ^ 31) (hk : k < K) (hl : l < K) : (nI (K - l) < nI (K - k)) ↔ k < l := by
  rw [nI_ltI (by omega) (by omega)]; omega
theorem nI_sub_eq {K k l : Nat} (hK : K < 2 ^ 31) (hk : k < K) (hl : l < K) : (nI (K - k) = nI (K - l)) ↔ k = l := by
  rw [nI_eq (by omega) (by omega)]; omega
theorem fst_one {p : Nat → Bool} : fst p 1 = if p 0 = true then some 0 else none := rfl
theorem fst_two {p : Nat → Bool} : fst p 2 = if p 0 = true then some 0 else if p 1 = true then some 1 else none := rfl
theorem fst_three {p : Nat → Bool} : fst p 3 = if p 0 = true then some 0 else if p 1 = true then some 1 else if p 2 = true then some 2 else none := rfl
def keyN (K : Nat) (t : Int32) : Nat := if t = 1 then K + 1 else if t = 2 then 3 else 2
theorem btr_lx {c w r : Rw} {K A k l : Nat} {t : Int32} (hK : K ≤ 5) (hk : k < K) (hl : l < K) : btr c w r K A t k l = lxB (keyN K t) (key c w r K A t k) (key c w r K A t l) := by
  have hK' : K < 2 ^ 31 := by omega
  unfold btr keyN key lxB
  by_cases h1 : t = 1
  · simp only [if_pos h1]
    have hc : fst (fun p => decide (¬(if p < K then fis c w r A k p else nI (K - k)) = if p < K then fis c w r A l p else nI (K - l))) K = fst (fun p => decide (¬ fis c w r A k p = fis c w r A l p)) K := fst_congr (fun p hp => by simp [hp])
    rw [fst_cons, hc]
    cases e : fst (fun p => decide (¬ fis c w r A k p = fis c w r A l p)) K with
    | some p =>
      have hp := (fst_spec e).1
      simp [hp]
    | none =>
      by_cases e2 : k = l
      · subst e2
        simp
      · have e3 := nI_sub_eq hK' hk hl
        have e4 := nI_sub_lt hK' hk hl
        simp [e3, e4, e2]
  · simp only [if_neg h1]
    have w1 : wns c w r K A k ≤ K := wns_le
    have w2 : wns c w r K A l ≤ K := wns_le
    have e0 : (nI (wns c w r K A k) = nI (wns c w r K A l)) ↔ _ := nI_eq (by omega) (by omega)
    have e0' : (nI (wns c w r K A l) < nI (wns c w r K A k)) ↔ _ := nI_ltI (by omega) (by omega)
    have e1 := nI_sub_eq hK' hk hl
    have e2 := nI_sub_lt hK' hk hl
    by_cases h2 : t = 2
    · simp only [if_pos h2, fst_three]
      by_cases q : wns c w r K A k = wns c w r K A l
      · by_cases q2 : pts c w r K A k = pts c w r K A l
        · by_cases q3 : k = l
          · subst q3; simp
          · simp [h2, q, q2, q3, e0, e1, e2]
        · simp [h2, q, q2, e0]
      · simp [h2, q, e0, e0']
    · simp only [if_neg h2, fst_two]
      by_cases q2 : pts c w r K A k = pts c w r K A l
      · by_cases q3 : k = l
        · subst q3; simp
        · simp [h2, q2, q3, e1, e2]
      · simp [h2, q2]
theorem btr_SO {c w r : Rw} {K A : Nat} {t : Int32} (hK : K ≤ 5) : SO K (btr c w r K A t) := by
  refine ⟨fun k hk => ?_, fun i j k hi hj hk h1 h2 => ?_, fun i j hi hj hne => ?_⟩
  · rw [btr_lx hK hk hk]; exact lxB_irr
  · rw [btr_lx hK hi hj] at h1
    rw [btr_lx hK hj hk] at h2
    rw [btr_lx hK hi hk]
    exact lxB_trans h1 h2
  · rw [btr_lx hK hi hj, btr_lx hK hj hi]
    apply lxB_tot
    have hd : ¬ nI (K - i) = nI (K - j) := fun z => hne ((nI_sub_eq (by omega) hi hj).mp z)
    unfold keyN key
    by_cases h1 : t = 1
    · simp only [if_pos h1]
      exact ⟨K, by omega, by rw [if_neg (Nat.lt_irrefl K), if_neg (Nat.lt_irrefl K)]; exact hd⟩
    · simp only [if_neg h1]
      by_cases h2 : t = 2
      · simp only [if_pos h2]
        exact ⟨2, by omega, by simpa using hd⟩
      · simp only [if_neg h2]
        exact ⟨1, by omega, by simpa using hd⟩
theorem rnk_rk {c w r : Rw} {K A k m : Nat} {t : Int32} : rnk c w r K A t k m = rk (btr c w r K A t) k m := rfl
/-- the outcome's row: below K the class of each place (or the order as it was) -/
theorem tlF_any {c w r f : Rw} {K A m : Nat} {t : Int32} (hK : K ≤ 5) (h : (fst (cnB c r) A).isSome = true) : m ≤ K → ∀ k, k < m → tlF c w r f K A t m (rnk c w r K A t k K) = nI k := by
  induction m with
  | zero => intro _ k hk; omega
  | succ m ih =>
    intro hm k hk
    rw [tlF, if_pos h]
    by_cases e : k = m
    · subst e; exact up_s
    · have : ¬ rnk c w r K A t k K = rnk c w r K A t m K := fun z => e (rk_inj (btr_SO hK) (by omega) (by omega) z)
      rw [up_o this]
      exact ih (by omega) k (by omega)
theorem tlF_none {c w r f : Rw} {K A m : Nat} {t : Int32} (h : ¬ (fst (cnB c r) A).isSome = true) : ∀ k, k < m → tlF c w r f K A t m k = r (10 + k) := by
  induction m with
  | zero => intro k hk; omega
  | succ m ih =>
    intro k hk
    rw [tlF, if_neg h]
    by_cases e : k = m
    · subst e; exact up_s
    · rw [up_o e]; exact ih k (by omega)
/-- what lay there before doesn't matter -/
theorem tlF_indep {c w r f g : Rw} {K A : Nat} {t : Int32} (hK : K ≤ 5) : ∀ p, p < K → tlF c w r f K A t K p = tlF c w r g K A t K p := by
  intro p hp
  by_cases h : (fst (cnB c r) A).isSome = true
  · obtain ⟨k, hk, e⟩ := rk_surj (btr_SO (c := c) (w := w) (r := r) (A := A) (t := t) hK) hp
    have e' : rnk c w r K A t k K = p := e
    rw [← e', tlF_any hK h (Nat.le_refl K) k hk, tlF_any hK h (Nat.le_refl K) k hk]
  · rw [tlF_none h p hp, tlF_none h p hp]
theorem tlF_in {c w r f : Rw} {K A : Nat} {t : Int32} (hK : K ≤ 5) (ho : ∀ p, p < K → vp_in (r (10 + p)) K) : ∀ p, p < K → vp_in (tlF c w r f K A t K p) K := by
  intro p hp
  by_cases h : (fst (cnB c r) A).isSome = true
  · obtain ⟨k, hk, e⟩ := rk_surj (btr_SO (c := c) (w := w) (r := r) (A := A) (t := t) hK) hp
    have e' : rnk c w r K A t k K = p := e
    rw [← e', tlF_any hK h (Nat.le_refl K) k hk]
    exact vp_in_nI hk (by omega)
  · rw [tlF_none h p hp]
    exact ho p hp
theorem tlF_sur {c w r f : Rw} {K A : Nat} {t : Int32} (hK : K ≤ 5) (ho : ∀ k, k < K → ∃ p, p < K ∧ r (10 + p) = nI k) : ∀ k, k < K → ∃ p, p < K ∧ tlF c w r f K A t K p = nI k := by
  intro k hk
  by_cases h : (fst (cnB c r) A).isSome = true
  · exact ⟨_, rk_lt hk, tlF_any hK h (Nat.le_refl K) k hk⟩
  · obtain ⟨p, hp, e⟩ := ho k hk
    exact ⟨p, hp, by rw [tlF_none h p hp]; exact e⟩

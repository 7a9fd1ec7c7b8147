/-! PLAIN LAW: what holds of the row at all times -/
def Rt (r : Rw) (A : Nat) : Prop := vp_in (r 2) A ∧ vp_in (r 1) 3 ∧ (r 3 = 0 ∨ r 3 = 1)
def Ro (r : Rw) (K : Nat) : Prop := (∀ p, p < K → vp_in (r (10 + p)) K) ∧ ∀ k, k < K → ∃ p, p < K ∧ r (10 + p) = nI k
def Rb (r : Rw) (K A : Nat) : Prop := ∀ a, a < A → (∀ p, p < K → vp_in (r (78 + 5 * a + p)) K) ∧ ∀ k, k < K → ∃ p, p < K ∧ r (78 + 5 * a + p) = nI k
def Rm (r : Rw) (K : Nat) : Prop := ∀ k, k < K → vp_in (r (15 + k)) 4
/-- credits, debts, silence -/
def Rc (r : Rw) (A : Nat) : Prop := ∀ a, a < A → vp_in (r (20 + a)) 1000 ∧ vp_in (r (28 + a)) 100 ∧ vp_in (r (36 + a)) 100
/-- a request -/
def rq1 (r : Rw) (K A i : Nat) : Prop := vp_in (r (118 + 6 * i + 1)) A ∧ vp_in (r (118 + 6 * i + 2)) K ∧ ∃ l, 1 ≤ l ∧ l ≤ 20 ∧ r (118 + 6 * i + 3) = nI l
/-- all requests; s: their numbers; b: asked; e: answered -/
def RqX (r : Rw) (K A n m : Nat) : Prop := n ≤ 40 ∧ r 9 = nI n ∧ (∀ i, i < n → rq1 r K A i) ∧ (r 8 = -1 ∨ ∃ i, i < n ∧ r (118 + 6 * i) = r 8) ∧
  ∃ (b e : Nat) (s : Nat → Nat), b ≤ 9999 ∧ e + m ≤ b ∧ r 6 = nI b ∧ r 7 = nI e ∧ (∀ i, i < n → r (118 + 6 * i) = nI (s i) ∧ s i < b) ∧ ∀ i j, i < j → j < n → s i < s j
def Rq (r : Rw) (K A n : Nat) : Prop := RqX r K A n n
/-- of a request that waits nothing is done yet -/
def RL (r : Rw) (n : Nat) : Prop := ∀ i, i < n → ¬ r (118 + 6 * i) = r 8 → r (118 + 6 * i + 4) = r (118 + 6 * i + 3)
def RI (r : Rw) (K A n : Nat) : Prop := Rt r A ∧ Ro r K ∧ Rb r K A ∧ Rm r K ∧ Rc r A ∧ Rq r K A n ∧ RL r n
theorem Ro.of {r r' : Rw} {K : Nat} (hK : K ≤ 5) (h : Ro r K) (e : ∀ k, 10 ≤ k → k < 15 → r' k = r k) : Ro r' K := ⟨fun p hp => by rw [e _ (by omega) (by omega)]; exact h.1 p hp, fun k hk => by
  obtain ⟨p, hp, q⟩ := h.2 k hk
  exact ⟨p, hp, by rw [e _ (by omega) (by omega)]; exact q⟩⟩
theorem Rb.of {r r' : Rw} {K A : Nat} (hK : K ≤ 5) (hA : A ≤ 8) (h : Rb r K A) (e : ∀ k, 78 ≤ k → k < 118 → r' k = r k) : Rb r' K A := fun a ha => ⟨fun p hp => by rw [e _ (by omega) (by omega)]; exact (h a ha).1 p hp, fun k hk => by
  obtain ⟨p, hp, q⟩ := (h a ha).2 k hk
  exact ⟨p, hp, by rw [e _ (by omega) (by omega)]; exact q⟩⟩
theorem Rm.of {r r' : Rw} {K : Nat} (hK : K ≤ 5) (h : Rm r K) (e : ∀ k, 15 ≤ k → k < 20 → r' k = r k) : Rm r' K := fun k hk => by rw [e _ (by omega) (by omega)]; exact h k hk
theorem Rc.of {r r' : Rw} {A : Nat} (hA : A ≤ 8) (h : Rc r A) (e : ∀ k, 20 ≤ k → k < 44 → r' k = r k) : Rc r' A := fun a ha => by rw [e _ (by omega) (by omega), e _ (by omega) (by omega), e _ (by omega) (by omega)]; exact h a ha
theorem Rq.of {r r' : Rw} {K A n : Nat} (h : Rq r K A n) (e : ∀ k, 6 ≤ k → k < 10 → r' k = r k) (e2 : ∀ k, 118 ≤ k → k < 358 → r' k = r k) : Rq r' K A n := by
  obtain ⟨h1, h2, h3, h4, b, e9, s, h5, h6, h7, h8, h9, h10⟩ := h
  refine ⟨h1, by rw [e 9 (by omega) (by omega)]; exact h2, fun i hi => ?_, ?_, b, e9, s, h5, h6, by rw [e 6 (by omega) (by omega)]; exact h7, by rw [e 7 (by omega) (by omega)]; exact h8, fun i hi => by rw [e2 _ (by omega) (by omega)]; exact h9 i hi, h10⟩
  · unfold rq1
    rw [e2 _ (by omega) (by omega), e2 _ (by omega) (by omega), e2 _ (by omega) (by omega)]
    exact h3 i hi
  · rw [e 8 (by omega) (by omega)]
    rcases h4 with h | ⟨i, hi, h⟩
    · exact Or.inl h
    · exact Or.inr ⟨i, hi, by rw [e2 _ (by omega) (by omega)]; exact h⟩
theorem RL.of {r r' : Rw} {n : Nat} (hn : n ≤ 40) (h : RL r n) (e8 : r' 8 = r 8) (e2 : ∀ k, 118 ≤ k → k < 358 → r' k = r k) : RL r' n := fun i hi => by
  rw [e2 (118 + 6 * i) (by omega) (by omega), e2 (118 + 6 * i + 4) (by omega) (by omega), e2 (118 + 6 * i + 3) (by omega) (by omega), e8]
  exact h i hi
theorem Rt.of {r r' : Rw} {A : Nat} (h : Rt r A) (e : ∀ k, 1 ≤ k → k < 4 → r' k = r k) : Rt r' A := by
  unfold Rt
  rw [e 1 (by omega) (by omega), e 2 (by omega) (by omega), e 3 (by omega) (by omega)]
  exact h
theorem RI.VW {c r : Rw} {K A n : Nat} (h : RI r K A n) (h1 : c 1 = nI K) (hK : K ≤ 5) (h2 : c 2 = nI A) (hA : A ≤ 8) : VW c r K A := ⟨h1, hK, h2, hA, fun a ha k hk => by
  obtain ⟨p, hp, e⟩ := (h.2.2.1 a ha).2 k hk
  exact ⟨p, by omega, e⟩⟩
theorem vp_mono {x : Int32} {a b : Nat} (h : vp_in x a) (hab : a ≤ b) : vp_in x b := by
  unfold vp_in at h ⊢
  intro z
  apply h
  rcases z with z | z
  · exact Or.inl z
  · exact Or.inr (by omega)
theorem Rq.rqs {r : Rw} {K A n : Nat} (hK : K ≤ 5) (hA : A ≤ 8) (h : Rq r K A n) : rqs r n := ⟨h.1, h.2.1, fun i hi => ⟨vp_mono (h.2.2.1 i hi).1 hA, vp_mono (h.2.2.1 i hi).2.1 hK⟩⟩
theorem nI_nn {n : Nat} (h : n < 2 ^ 31) : ¬ nI n < 0 := by
  intro z
  have h2 : nI n < nI 0 := z
  rw [nI_ltI h (by omega)] at h2
  omega
theorem Rq.nn7 {r : Rw} {K A n : Nat} (h : Rq r K A n) : ¬ r 7 < 0 := by
  obtain ⟨-, -, -, -, b, e9, s, h5, h6, -, h8, -⟩ := h
  rw [h8]
  exact nI_nn (by omega)
/-- the order anew -/
theorem RI_or {r T : Rw} {K A n : Nat} (hK : K ≤ 5) (hA : A ≤ 8) (h : RI r K A n) (h1 : ∀ p, p < K → vp_in (T p) K) (h2 : ∀ k, k < K → ∃ p, p < K ∧ T p = nI k) : RI (orF r T K) K A n := by
  have e : ∀ k, ¬ k = 4 → ¬ k = 5 → ¬ (10 ≤ k ∧ k < 10 + K) → orF r T K k = r k := fun k a b q => by
    unfold orF
    rw [up_o b, up_o a, cpy_o _ _ q]
  have eo : ∀ p, p < K → orF r T K (10 + p) = T p := fun p hp => by
    unfold orF
    rw [up_o (by omega), up_o (by omega)]
    unfold va_cpy
    rw [if_pos ⟨by omega, by omega⟩]
    congr 1; omega
  obtain ⟨a1, a2, a3, a4, a5, a6, a7⟩ := h
  exact ⟨a1.of fun k x y => e k (by omega) (by omega) (by omega), ⟨fun p hp => by rw [eo p hp]; exact h1 p hp, fun k hk => by obtain ⟨p, hp, q⟩ := h2 k hk; exact ⟨p, hp, by rw [eo p hp]; exact q⟩⟩,
    a3.of hK hA fun k x y => e k (by omega) (by omega) (by omega), a4.of hK fun k x y => e k (by omega) (by omega) (by omega), a5.of hA fun k x y => e k (by omega) (by omega) (by omega), a6.of (fun k x y => e k (by omega) (by omega) (by omega)) (fun k x y => e k (by omega) (by omega) (by omega)), a7.of a6.1 (e 8 (by omega) (by omega) (by omega)) (fun k x y => e k (by omega) (by omega) (by omega))⟩
theorem vp_nI {n N : Nat} (h : n < N) (hN : N < 2 ^ 31) : vp_in (nI n) N := vp_in_nI h hN
/-- on to the next -/
theorem RI_ps {r : Rw} {K A n : Nat} (hK : K ≤ 5) (hA : A ≤ 8) (h : RI r K A n) : RI (psF r A) K A n := by
  obtain ⟨a1, a2, a3, a4, a5, a6, a7⟩ := h
  obtain ⟨a, ha, ea⟩ := vp_in_of a1.1 (by omega)
  have hc : cl (nI a) = a := nI_clamp (by omega)
  have e : ∀ k, ¬ k = 2 → ¬ k = 3 → ¬ k = 36 + a → psF r A k = r k := fun k x y z => by
    unfold psF
    rw [ea, hc]
    rw [up_o x, up_o y]
    split
    · rw [up_o z]
    · rfl
  have e2 : psF r A 2 = nI ((a + 1) % A) := by unfold psF; rw [ea, hc]; exact up_s
  have e3 : psF r A 3 = 0 := by unfold psF; rw [up_o (by omega)]; exact up_s
  have e6 : vp_in (psF r A (36 + a)) 100 := by
    unfold psF
    rw [ea, hc]
    rw [up_o (by omega), up_o (by omega)]
    have q := (a5 a ha).2.2
    split
    · rw [up_s]
      obtain ⟨x, hx, ex⟩ := vp_in_of q (by omega)
      rw [ex, nI_1]
      split
      · exact vp_nI (n := 99) (by omega) (by omega)
      · rename_i z
        have z2 : ¬ nI 99 < nI (x + 1) := z
        rw [nI_ltI (by omega) (by omega)] at z2
        exact vp_nI (by omega) (by omega)
    · exact q
  refine ⟨⟨by rw [e2]; exact vp_nI (Nat.mod_lt _ (by omega)) (by omega), by rw [e 1 (by omega) (by omega) (by omega)]; exact a1.2.1, Or.inl e3⟩, a2.of hK fun k x y => e k (by omega) (by omega) (by omega), a3.of hK hA fun k x y => e k (by omega) (by omega) (by omega), a4.of hK fun k x y => e k (by omega) (by omega) (by omega), fun b hb => ?_, a6.of (fun k x y => e k (by omega) (by omega) (by omega)) (fun k x y => e k (by omega) (by omega) (by omega)), a7.of a6.1 (e 8 (by omega) (by omega) (by omega)) (fun k x y => e k (by omega) (by omega) (by omega))⟩
  by_cases q : b = a
  · subst q
    exact ⟨by rw [e _ (by omega) (by omega) (by omega)]; exact (a5 b hb).1, by rw [e _ (by omega) (by omega) (by omega)]; exact (a5 b hb).2.1, e6⟩
  · rw [e _ (by omega) (by omega) (by omega), e _ (by omega) (by omega) (by omega), e _ (by omega) (by omega) (by omega)]
    exact a5 b hb
/-- what is taken next -/
theorem RI_nx {r : Rw} {K A n : Nat} (hK : K ≤ 5) (hA : A ≤ 8) (h : RI r K A n) (hr8 : r 8 = -1) : RI (nxF r K n) K A n := by
  unfold nxF
  cases fst (nxB r n) K with
  | none => exact h
  | some p =>
    dsimp only
    cases hf : fst (lnB r n (r (10 + p)) 0) n with
    | none => exact h
    | some i =>
      dsimp only
      have hi := (fst_spec hf).1
      obtain ⟨a1, a2, a3, a4, a5, ⟨h1, h2, h3, h4, b, e9, s, h5, h6, h7, h8, h9, h10⟩, a7⟩ := h
      have e : ∀ k, ¬ k = 8 → va_up r 8 (r (118 + 6 * i)) k = r k := fun k x => up_o x
      refine ⟨a1.of fun k x y => e k (by omega), a2.of hK fun k x y => e k (by omega), a3.of hK hA fun k x y => e k (by omega), a4.of hK fun k x y => e k (by omega), a5.of hA fun k x y => e k (by omega), ⟨h1, by rw [e 9 (by omega)]; exact h2, fun j hj => ?_, Or.inr ⟨i, hi, by rw [up_s, e _ (by omega)]⟩, b, e9, s, h5, h6, by rw [e 6 (by omega)]; exact h7, by rw [e 7 (by omega)]; exact h8, fun j hj => by rw [e _ (by omega)]; exact h9 j hj, h10⟩, fun j hj _ => ?_⟩
      · unfold rq1
        rw [e _ (by omega), e _ (by omega), e _ (by omega)]
        exact h3 j hj
      · rw [e _ (by omega), e _ (by omega)]
        apply a7 j hj
        rw [hr8, (h9 j hj).1, m1_nI (by have := (h9 j hj).2; omega)]
        exact id

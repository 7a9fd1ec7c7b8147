/-! PLAIN LAW: an answer, a tick keep it -/
theorem Rq.inj {r : Rw} {K A n : Nat} (h : Rq r K A n) {i j : Nat} (hi : i < n) (hj : j < n) (e : r (118 + 6 * i) = r (118 + 6 * j)) : i = j := by
  obtain ⟨h1, h2, h3, h4, b, e9, s, h5, h6, h7, h8, h9, h10⟩ := h
  rw [(h9 i hi).1, (h9 j hj).1] at e
  have a1 := (h9 i hi).2
  have a2 := (h9 j hj).2
  have e' := (nI_eq (by omega) (by omega)).mp e
  rcases Nat.lt_trichotomy i j with z | z | z
  · have := h10 i j z hj; omega
  · exact z
  · have := h10 j i z hi; omega
/-- a request taken out: the row behind -/
theorem toF_lo {r : Rw} {n i k : Nat} (h : k < 118) (h9 : ¬ k = 9) : toF r n i k = r k := by
  unfold toF
  rw [cpy_o _ _ (by omega), up_o h9]
theorem toF_9 {r : Rw} {n i : Nat} : toF r n i 9 = nI (n - 1) := by
  unfold toF
  rw [cpy_o _ _ (by omega), up_s]
theorem toF_rq {r : Rw} {n i j w : Nat} (hn : n ≤ 40) (hi : i < n) (hj : j < n - 1) (hw : w < 6) : toF r n i (118 + 6 * j + w) = r (118 + 6 * (if j < i then j else j + 1) + w) := by
  unfold toF
  by_cases q : j < i
  · rw [if_pos q, cpy_o _ _ (by omega), up_o (by omega)]
  · rw [if_neg q]
    unfold va_cpy
    rw [if_pos ⟨by omega, by omega⟩, up_o (by omega)]
    congr 1; omega
theorem toF_hi {r : Rw} {n i k : Nat} (hn : n ≤ 40) (hi : i < n) (h : 358 ≤ k) : toF r n i k = r k := by
  unfold toF
  rw [cpy_o _ _ (by omega), up_o (by omega)]
/-- a request leaves: no longer in progress -/
theorem Rq_to {r : Rw} {K A n i : Nat} (h : RqX r K A n (n - 1)) (hi : i < n) (h8 : r 8 = -1 ∨ ¬ r 8 = r (118 + 6 * i)) : Rq (toF r n i) K A (n - 1) := by
  have hh := h
  obtain ⟨h1, h2, h3, h4, b, e9, s, h5, h6, h7, h88, h9, h10⟩ := h
  have hq : ∀ j w, j < n - 1 → w < 6 → toF r n i (118 + 6 * j + w) = r (118 + 6 * (if j < i then j else j + 1) + w) := fun j w a b => toF_rq h1 hi a b
  have hlt : ∀ j, j < n - 1 → (if j < i then j else j + 1) < n := fun j hj => by split <;> omega
  refine ⟨by omega, toF_9, fun j hj => ?_, ?_, b, e9, fun j => s (if j < i then j else j + 1), h5, by omega, by rw [toF_lo (by omega) (by omega)]; exact h7, by rw [toF_lo (by omega) (by omega)]; exact h88, fun j hj => ?_, fun j k hjk hk => ?_⟩
  · unfold rq1
    rw [hq j 1 hj (by omega), hq j 2 hj (by omega), hq j 3 hj (by omega)]
    exact h3 _ (hlt j hj)
  · rw [toF_lo (by omega) (by omega)]
    rcases h8 with z | z
    · exact Or.inl z
    · rcases h4 with y | ⟨j, hj, e⟩
      · exact Or.inl y
      · have hne : ¬ j = i := fun w => z (by rw [← e, w])
        refine Or.inr ⟨if j < i then j else j - 1, by split <;> omega, ?_⟩
        have := hq (if j < i then j else j - 1) 0 (by split <;> omega) (by omega)
        rw [Nat.add_zero, Nat.add_zero] at this
        rw [this, ← e]
        by_cases q : j < i
        · rw [if_pos q, if_pos q]
        · rw [if_neg q, if_neg (show ¬ j - 1 < i by omega), show j - 1 + 1 = j by omega]
  · have := hq j 0 hj (by omega)
    rw [Nat.add_zero, Nat.add_zero] at this
    rw [this]
    exact h9 _ (hlt j hj)
  · apply h10
    · by_cases q : j < i
      · rw [if_pos q]; split <;> omega
      · rw [if_neg q, if_neg (show ¬ k < i by omega)]; omega
    · exact hlt k hk
/-- an answer's row, ahead of the request's leaving -/
theorem anW_rq {r : Rw} {i a k j : Nat} (ha : a < 8) (hk : k < 5) (hj : 118 ≤ j) (hj2 : j < 358) : anW r i a k j = r j := by
  unfold anW
  have := Nat.mod_lt (cl (r 7)) (show 0 < 60 by omega)
  simp (disch := omega) only [up_o]
theorem anW_lo {r : Rw} {i a k j : Nat} (ha : a < 8) (hk : k < 5) (h7 : ¬ j = 7) (h8 : ¬ j = 8) (h1 : ¬ (20 ≤ j ∧ j < 78)) (hj2 : j < 118) : anW r i a k j = r j := by
  unfold anW
  have := Nat.mod_lt (cl (r 7)) (show 0 < 60 by omega)
  simp (disch := omega) only [up_o]
theorem anW_7 {r : Rw} {i a k : Nat} : anW r i a k 7 = r 7 + 1 := by unfold anW; rw [up_o (by omega), up_s]
theorem anW_8 {r : Rw} {i a k : Nat} : anW r i a k 8 = -1 := by unfold anW; exact up_s
theorem anW_c {r : Rw} {i a k b : Nat} (ha : a < 8) (hk : k < 5) (hb : b < 8) (hne : ¬ b = a) (x : Nat) (hx : x = 20 ∨ x = 28 ∨ x = 36) : anW r i a k (x + b) = r (x + b) := by
  unfold anW
  have := Nat.mod_lt (cl (r 7)) (show 0 < 60 by omega)
  simp (disch := omega) only [up_o]
theorem anW_si {r : Rw} {i a k : Nat} (ha : a < 8) (hk : k < 5) : anW r i a k (36 + a) = r (36 + a) := by
  unfold anW
  have := Nat.mod_lt (cl (r 7)) (show 0 < 60 by omega)
  simp (disch := omega) only [up_o]
theorem anW_de {r : Rw} {i a k : Nat} (ha : a < 8) (hk : k < 5) : anW r i a k (28 + a) = r (28 + a) - (if r (118 + 6 * i + 3) < r (28 + a) then r (118 + 6 * i + 3) else r (28 + a)) := by
  unfold anW
  have := Nat.mod_lt (cl (r 7)) (show 0 < 60 by omega)
  simp (disch := omega) only [up_o, up_s]
theorem anW_cr {r : Rw} {i a k : Nat} (ha : a < 8) (hk : k < 5) : anW r i a k (20 + a) = (let z := if r (118 + 6 * i + 3) < r (28 + a) then r (118 + 6 * i + 3) else r (28 + a); if 999 < r (20 + a) + r (118 + 6 * i + 3) - z then 999 else r (20 + a) + r (118 + 6 * i + 3) - z) := by
  unfold anW
  have := Nat.mod_lt (cl (r 7)) (show 0 < 60 by omega)
  simp (disch := omega) only [up_o, up_s]
theorem RI_an {r : Rw} {K A n i : Nat} (hK : K ≤ 5) (hA : A ≤ 8) (h : RI r K A n) (hi : i < n) (hp : r (118 + 6 * i) = r 8) : RI (anF r n i) K A (n - 1) := by
  obtain ⟨a1, a2, a3, a4, a5, a6, a7⟩ := h
  have hq := a6
  obtain ⟨h1, h2, h3, h4, b, e9, s, h5, h6, h7, h8, h9, h10⟩ := a6
  obtain ⟨v1, v2, l, l1, l2, el⟩ := h3 i hi
  obtain ⟨a, ha, ea⟩ := vp_in_of v1 (by omega)
  obtain ⟨k, hk, ek⟩ := vp_in_of v2 (by omega)
  have ca : cl (nI a) = a := nI_clamp (by omega)
  have ck : cl (nI k) = k := nI_clamp (by omega)
  unfold anF
  rw [ea, ek, ca, ck]
  have ha8 : a < 8 := by omega
  have hk5 : k < 5 := by omega
  have eW : ∀ j, 118 ≤ j → j < 358 → anW r i a k j = r j := fun j x y => anW_rq ha8 hk5 x y
  have eL : ∀ j, ¬ j = 7 → ¬ j = 8 → ¬ (20 ≤ j ∧ j < 78) → j < 118 → anW r i a k j = r j := fun j x y z w => anW_lo ha8 hk5 x y z w
  have q6 : RqX (anW r i a k) K A n (n - 1) := by
    refine ⟨h1, by rw [eL 9 (by omega) (by omega) (by omega) (by omega)]; exact h2, fun j hj => ?_, Or.inl anW_8, b, e9 + 1, s, h5, by omega, by rw [eL 6 (by omega) (by omega) (by omega) (by omega)]; exact h7, by rw [anW_7, h8, nI_1], fun j hj => by rw [eW _ (by omega) (by omega)]; exact h9 j hj, h10⟩
    unfold rq1
    rw [eW _ (by omega) (by omega), eW _ (by omega) (by omega), eW _ (by omega) (by omega)]
    exact h3 j hj
  have eT : ∀ j, j < 118 → ¬ j = 9 → toF (anW r i a k) n i j = anW r i a k j := fun j x y => toF_lo x y
  refine ⟨a1.of fun j x y => ?_, a2.of hK fun j x y => ?_, a3.of hK hA fun j x y => ?_, a4.of hK fun j x y => ?_, fun c hc => ?_, Rq_to q6 hi (Or.inl anW_8), fun j hj _ => ?_⟩
  · rw [eT _ (by omega) (by omega), eL _ (by omega) (by omega) (by omega) (by omega)]
  · rw [eT _ (by omega) (by omega), eL _ (by omega) (by omega) (by omega) (by omega)]
  · rw [eT _ (by omega) (by omega), eL _ (by omega) (by omega) (by omega) (by omega)]
  · rw [eT _ (by omega) (by omega), eL _ (by omega) (by omega) (by omega) (by omega)]
  · rw [eT _ (by omega) (by omega), eT _ (by omega) (by omega), eT _ (by omega) (by omega)]
    by_cases q : c = a
    · subst q
      obtain ⟨c1, c2, c3⟩ := a5 c hc
      obtain ⟨x, hx, ex⟩ := vp_in_of c1 (by omega)
      obtain ⟨y, hy, ey⟩ := vp_in_of c2 (by omega)
      obtain ⟨z, hz⟩ : ∃ z, z = (if l < y then l else y) := ⟨_, rfl⟩
      have z1 : z ≤ l := by rw [hz]; split <;> omega
      have z2 : z ≤ y := by rw [hz]; split <;> omega
      have ez : (if nI l < nI y then nI l else nI y) = nI z := by
        rw [hz]
        by_cases w : l < y
        · rw [if_pos w, if_pos ((nI_ltI (by omega) (by omega)).mpr w)]
        · rw [if_neg w, if_neg (fun z => w ((nI_ltI (by omega) (by omega)).mp z))]
      refine ⟨?_, ?_, by rw [anW_si ha8 hk5]; exact c3⟩
      · rw [anW_cr ha8 hk5, ex, ey, el]
        dsimp only
        rw [ez, nI_add, nI_sub (by omega)]
        by_cases w : (999 : Int32) < nI (x + l - z)
        · rw [if_pos w]
          exact vp_nI (n := 999) (by omega) (by omega)
        · rw [if_neg w]
          have w2 : ¬ nI 999 < nI (x + l - z) := w
          rw [nI_ltI (by omega) (by omega)] at w2
          exact vp_nI (by omega) (by omega)
      · rw [anW_de ha8 hk5, ey, el, ez, nI_sub z2]
        exact vp_nI (by omega) (by omega)
    · rw [anW_c ha8 hk5 (by omega) q 20 (by omega), anW_c ha8 hk5 (by omega) q 28 (by omega), anW_c ha8 hk5 (by omega) q 36 (by omega)]
      exact a5 c hc
  · have t0 := toF_rq (r := anW r i a k) (w := 4) h1 hi hj (by omega)
    have t1 := toF_rq (r := anW r i a k) (w := 3) h1 hi hj (by omega)
    have hlt : (if j < i then j else j + 1) < n := by split <;> omega
    have hne : ¬ (if j < i then j else j + 1) = i := by split <;> omega
    rw [t0, t1, eW _ (by omega) (by omega), eW _ (by omega) (by omega)]
    apply a7 _ hlt
    intro z
    exact hne (hq.inj hlt hi (z.trans hp.symm))
theorem up_add {α : Type} {f : Nat → α} {k : Nat} {x : α} {j : Nat} : va_up f k x j = if j = k then x else f j := rfl
theorem RI_wo {r : Rw} {K A n i : Nat} (hK : K ≤ 5) (hA : A ≤ 8) (h : RI r K A n) (hi : i < n) (hp : r (118 + 6 * i) = r 8) : ∃ m, RI (woF r n i) K A m := by
  have hh := h
  obtain ⟨a1, a2, a3, a4, a5, a6, a7⟩ := h
  have hq := a6
  obtain ⟨h1, h2, h3, h4, b, e9, s, h5, h6, h7, h8, h9, h10⟩ := a6
  have hr : ∀ x, RI (va_up r (118 + 6 * i + 4) x) K A n := by
    intro x
    have e : ∀ k, ¬ k = 118 + 6 * i + 4 → va_up r (118 + 6 * i + 4) x k = r k := fun k y => up_o y
    refine ⟨a1.of fun k x y => e k (by omega), a2.of hK fun k x y => e k (by omega), a3.of hK hA fun k x y => e k (by omega), a4.of hK fun k x y => e k (by omega), a5.of hA fun k x y => e k (by omega), ⟨h1, by rw [e 9 (by omega)]; exact h2, fun j hj => ?_, ?_, b, e9, s, h5, h6, by rw [e 6 (by omega)]; exact h7, by rw [e 7 (by omega)]; exact h8, fun j hj => by rw [e _ (by omega)]; exact h9 j hj, h10⟩, fun j hj => ?_⟩
    · unfold rq1
      rw [e _ (by omega), e _ (by omega), e _ (by omega)]
      exact h3 j hj
    · rw [e 8 (by omega)]
      rcases h4 with z | ⟨j, hj, z⟩
      · exact Or.inl z
      · exact Or.inr ⟨j, hj, by rw [e _ (by omega)]; exact z⟩
    · rw [e (118 + 6 * j) (by omega), e 8 (by omega), e (118 + 6 * j + 3) (by omega)]
      intro z
      have : ¬ j = i := fun w => by subst w; exact z hp
      rw [e _ (by omega)]
      exact a7 j hj z
  unfold woF
  split
  · exact ⟨_, RI_an hK hA (hr _) hi (by rw [up_o (by omega), up_o (by omega)]; exact hp)⟩
  · exact ⟨_, hr _⟩
/-- the tick's row keeps it -/
theorem RI_tk {c w r f : Rw} {K A n : Nat} (hK : K ≤ 5) (hA : A ≤ 8) (h : RI r K A n) : ∃ m, RI (tickF c w r f K A n) K A m := by
  have q1 : RI (tk1 c w r f K A) K A n := by
    unfold tk1
    split
    · exact RI_or hK hA h (tlF_in hK h.2.1.1) (tlF_sur hK h.2.1.2)
    · exact h
  have q2 : RI (tk2 c (tk1 c w r f K A) (r 0) A) K A n := by
    unfold tk2
    split
    · exact RI_ps hK hA q1
    · exact q1
  have q3 : RI (tk3 (tk2 c (tk1 c w r f K A) (r 0) A) K n) K A n := by
    unfold tk3
    split
    · rename_i z
      exact RI_nx hK hA q2 z
    · exact q2
  have q4 : ∃ m, RI (tk4 (tk3 (tk2 c (tk1 c w r f K A) (r 0) A) K n) n) K A m := by
    unfold tk4
    split
    · exact ⟨n, q3⟩
    · cases hf : fst (ixB _ _) n with
      | none => exact ⟨n, q3⟩
      | some i => exact RI_wo hK hA q3 (fst_spec hf).1 (of_decide_eq_true (fst_spec hf).2.1)
  obtain ⟨m, q⟩ := q4
  refine ⟨m, ?_⟩
  unfold tickF
  obtain ⟨a1, a2, a3, a4, a5, a6, a7⟩ := q
  exact ⟨a1.of fun k x y => up_o (by omega), a2.of hK fun k x y => up_o (by omega), a3.of hK hA fun k x y => up_o (by omega), a4.of hK fun k x y => up_o (by omega), a5.of hA fun k x y => up_o (by omega), a6.of (fun k x y => up_o (by omega)) (fun k x y => up_o (by omega)), a7.of a6.1 (up_o (by omega)) (fun k x y => up_o (by omega))⟩

/-! THE COMPONENT's object at x: its cells x .. x + 7, its bus, the saved one, those of its history -/
def XF (ow : Nat → Nat) (G : Hp) (x : Nat) : Prop := 1 < x ∧ gB G ≤ x ∧ x + 8 ≤ gX G ∧ (∀ j, j < 8 → ow (x + j) = x) ∧ gT G x = 1 ∧ gR G x 0 = some (x + 1) ∧ gR G x 3 = some (x + 2) ∧ gR G x 4 = some (x + 3) ∧ gR G x 8 = some (x + 4) ∧ gR G x 9 = some (x + 5) ∧ gR G x 10 = some (x + 6) ∧ gR G x 12 = some (x + 7) ∧
  gT G (x + 1) = 112 ∧ gT G (x + 2) = 13 ∧ gT G (x + 3) = 102 ∧ gT G (x + 4) = 100 ∧ gT G (x + 5) = 100 ∧ gT G (x + 6) = 100 ∧ gT G (x + 7) = 14 ∧ gN G (x + 1) = 3 ∧ gN G (x + 3) = 500 ∧ gN G (x + 4) = 5 ∧ gN G (x + 5) = 5 ∧ gN G (x + 6) = 5 ∧
  ∀ t, t < 3 → ∃ ty, gR G (x + 1) t = some ty ∧ ty < gB G ∧ gT G ty = 2 + t ∧ gI G ty 0 = nI t
/-- a bus that isn't the present one -/
def HB (ow : Nat → Nat) (G : Hp) (c w r : Rw) (K A z b : Nat) : Prop := ∃ s m, BB G b s c w r K A m ∧ OW ow G b s m ∧ s.2.1 = z ∧ RJ r K A
/-- the history and what is saved; hb: the buses of the history -/
def XH (ow : Nat → Nat) (G : Hp) (x : Nat) (c w : Rw) (K A z b : Nat) (hr : Nat → Rw) (hn : Nat) (sv : Option Rw) : Prop := ∃ (he : Nat) (hb : Nat → Nat), AL G (x + 2) he hn ∧ LB G he ∧ hn ≤ 8 ∧ (he = gA G 23 ∨ ow he = x) ∧ (∀ k, k < hn → gR G he k = some (hb k) ∧ HB ow G c w (hr k) K A z (hb k) ∧ hb k < b) ∧ (∀ j k, j < k → k < hn → hb j < hb k) ∧ (∀ k, hn ≤ k → gR G he k = none) ∧
  match sv with
  | none => gR G x 2 = none
  | some r => ∃ sb, gR G x 2 = some sb ∧ HB ow G c w r K A z sb ∧ ¬ sb = b ∧ ∀ k, k < hn → ¬ sb = hb k
section
variable {b n x y m K A z hn o : Nat} {G G' : Hp} {s : Bs} {c c' w r : Rw} {ow ow' : Nat → Nat} {P : Nat → Prop} {hr : Nat → Rw} {sv : Option Rw}
theorem SU.cc (h : SU G z c w K A) (e : ∀ j, 3 ≤ j → j ≤ 7 → c' j = c j) : SU G z c' w K A := by
  obtain ⟨zT, zR0, zR1, zR2, zR3, zR4, zR5, zR6, zT1, zT2, zT5, zT6, zT7, zN5, zN6, zN7, zK, zA, zW, zc3, zc4, zc5, zc6, zc7⟩ := h
  exact ⟨zT, zR0, zR1, zR2, zR3, zR4, zR5, zR6, zT1, zT2, zT5, zT6, zT7, zN5, zN6, zN7, zK, zA, zW, by rw [e 3 (by omega) (by omega)]; exact zc3, by rw [e 4 (by omega) (by omega)]; exact zc4, by rw [e 5 (by omega) (by omega)]; exact zc5, by rw [e 6 (by omega) (by omega)]; exact zc6, by rw [e 7 (by omega) (by omega)]; exact zc7⟩
theorem BB.cc (h : BB G b s c w r K A m) (e : ∀ j, 3 ≤ j → j ≤ 7 → c' j = c j) : BB G b s c' w r K A m := by
  obtain ⟨i0, ⟨h1, h2, h3⟩, h4⟩ := h
  exact ⟨i0, ⟨h1, h2.cc e, h3⟩, h4⟩
theorem HB.cc {b : Nat} (h : HB ow G c w r K A z b) (e : ∀ j, 3 ≤ j → j ≤ 7 → c' j = c j) : HB ow G c' w r K A z b := by
  obtain ⟨s, m, h1, h2⟩ := h
  exact ⟨s, m, h1.cc e, h2⟩
theorem XH.cc (h : XH ow G x c w K A z b hr hn sv) (e : ∀ j, 3 ≤ j → j ≤ 7 → c' j = c j) : XH ow G x c' w K A z b hr hn sv := by
  obtain ⟨he, hb, h1, h2, h3, h4, h5, h6, h8, h7⟩ := h
  refine ⟨he, hb, h1, h2, h3, h4, fun k hk => ⟨(h5 k hk).1, (h5 k hk).2.1.cc e, (h5 k hk).2.2⟩, h6, h8, ?_⟩
  cases sv with
  | none => exact h7
  | some r =>
    obtain ⟨sb, q1, q2, q3⟩ := h7
    exact ⟨sb, q1, q2.cc e, q3⟩
theorem HB.lt (h : HB ow G c w r K A z b) : gB G ≤ b ∧ b + 21 ≤ gX G := by
  obtain ⟨s, m, h1, -⟩ := h
  exact ⟨h1.2.1.1, h1.2.2.2.1⟩
theorem HB.frame (h : HB ow G c w r K A z b) (hh : HO ow G) (hf : Fr P n y G G') (hP : ∀ a, a < gX G → P a → ¬ ow a = 0 ∧ ¬ ow a = b) : HB ow G' c w r K A z b := by
  obtain ⟨s, m, h1, h2, h3, h4⟩ := h
  obtain ⟨q1, q2⟩ := h1.frame h2 hh hf hP
  exact ⟨s, m, q1, q2, h3, h4⟩
theorem HB.ext (h : HB ow G c w r K A z b) (e : ∀ a, a < gX G → ow' a = ow a) : HB ow' G c w r K A z b := by
  obtain ⟨s, m, h1, h2, h3, h4⟩ := h
  exact ⟨s, m, h1, h2.ext h1 e, h3, h4⟩
theorem XF.frame (h : XF ow G x) (hh : HO ow G) (hb : gB G ≤ gX G) (hf : Fr P n y G G') (hP : ∀ j, j < 2 → ¬ P (x + j)) (hT : ∀ j, j < 8 → gT G' (x + j) = gT G (x + j) ∧ gN G' (x + j) = gN G (x + j)) (hC : ∀ a, a < gB G → ¬ P a) : XF ow G' x := by
  obtain ⟨h1, h2, h3, h4, a1, a2, a3, a4, a5, a6, a7, a8, t1, t2, t3, t4, t5, t6, t7, n1, n3, n4, n5, n6, hty⟩ := h
  have s0 := (hf.s (a := x) (by omega) (hP 0 (by omega))).2.2.2.2
  have s1 := (hf.s (a := x + 1) (by omega) (hP 1 (by omega))).2.2.2.2
  refine ⟨h1, by rw [hf.B]; omega, by have := hf.2.1; omega, h4, (hT 0 (by omega)).1.trans a1, (s0 _).trans a2, (s0 _).trans a3, (s0 _).trans a4, (s0 _).trans a5, (s0 _).trans a6, (s0 _).trans a7, (s0 _).trans a8, (hT 1 (by omega)).1.trans t1, (hT 2 (by omega)).1.trans t2, (hT 3 (by omega)).1.trans t3, (hT 4 (by omega)).1.trans t4, (hT 5 (by omega)).1.trans t5, (hT 6 (by omega)).1.trans t6, (hT 7 (by omega)).1.trans t7,
    (hT 1 (by omega)).2.trans n1, (hT 3 (by omega)).2.trans n3, (hT 4 (by omega)).2.trans n4, (hT 5 (by omega)).2.trans n5, (hT 6 (by omega)).2.trans n6, fun t ht => ?_⟩
  obtain ⟨ty, q1, q2, q3, q4⟩ := hty t ht
  have s2 := hf.s (a := ty) (by omega) (hC ty q2)
  exact ⟨ty, (s1 t).trans q1, by rw [hf.B]; exact q2, s2.1.trans q3, (s2.2.2.1 0).trans q4⟩
/-- nobody of the component is written -/
theorem XF.fr0 (h : XF ow G x) (hh : HO ow G) (hf : Fr P n y G G') (hP : ∀ a, a < gX G → P a → ¬ ow a = 0 ∧ ¬ ow a = x) : XF ow G' x := by
  have hx := h.2.2.1
  have hb := h.2.1
  have hw := h.2.2.2.1
  have sx : ∀ j, j < 8 → ¬ P (x + j) := fun j hj z => (hP _ (by omega) z).2 (hw j hj)
  refine h.frame hh (by omega) hf (fun j hj => sx j (by omega)) (fun j hj => ?_) (fun a ha z => (hP a (by omega) z).1 (hh.2 a ha))
  have := hf.s (a := x + j) (by omega) (sx j hj)
  exact ⟨this.1, this.2.1⟩
theorem LB.fr (h : LB G n) (hf : Fr P o y G G') (hs : sameC G G' n) (hT : ∀ k q, k < gN G n → gR G n k = some q → gT G' q = gT G q) : LB G' n := by
  obtain ⟨h1, h2, h3⟩ := h
  have := hf.2.1
  refine ⟨h1.of hf.1 hs.1 hs.2.1, fun k hk => ?_, by omega⟩
  rw [hs.2.1] at hk
  rw [hs.2.2.2.2 k]
  have := h2 k hk
  cases hq : gR G n k with
  | none => trivial
  | some q => rw [hq] at this; exact ⟨by rw [hT k q hk hq]; exact this.1, by have := this.2; omega⟩
theorem HB.T (h : HB ow G c w r K A z b) : gT G b = 6 ∧ 1 < b := by
  obtain ⟨s, m, h1, h2, -⟩ := h
  exact ⟨h1.1.T (j := 0) (by omega), h2.1⟩
theorem XH.frame (h : XH ow G x c w K A z b hr hn sv) (hh : HO ow G) (hx : XF ow G x) (hxb : ¬ x = b) (hb1 : 1 < b) (hf : Fr P n y G G') (e2 : gR G' x 2 = gR G x 2) (hP : ∀ a, a < gX G → P a → ow a = 1 ∨ ow a = b ∨ (ow a = x ∧ ¬ gT G a = 13 ∧ ¬ gT G a = 110)) : XH ow G' x c w K A z b hr hn sv := by
  obtain ⟨he, hb, h1, h2, h3, h4, h5, h6, h8, h7⟩ := h
  have x1 := hx.1
  have hk' : ∀ r' b', HB ow G c w r' K A z b' → ¬ b' = b → HB ow G' c w r' K A z b' ∧ sameC G G' b' := fun r' b' h hne => by
    have hT := h.T
    have hPb : ∀ a, a < gX G → P a → ¬ ow a = 0 ∧ ¬ ow a = b' := fun a ha hp => by
      rcases hP a ha hp with z | z | ⟨z, -, -⟩
      · omega
      · omega
      · refine ⟨by omega, fun y => ?_⟩
        have q : x = b' := z.symm.trans y
        have := hx.2.2.2.2.1
        rw [q, hT.1] at this
        exact absurd this (by decide)
    refine ⟨h.frame hh hf hPb, ?_⟩
    obtain ⟨s, m, w1, w2, -⟩ := h
    refine hf.s (by have := w1.2.2.2.1; omega) (fun z => (hPb b' (by have := w1.2.2.2.1; omega) z).2 (w2.2.1 0 (by omega)))
  have hx2 : x + 8 ≤ gX G := hx.2.2.1
  have s2 : sameC G G' (x + 2) := hf.s (by omega) (fun z => by
    have ho := hx.2.2.2.1 2 (by omega)
    have ht := h1.1
    rcases hP _ (by omega) z with y | y | ⟨-, y, -⟩
    · omega
    · omega
    · exact y ht)
  have se : sameC G G' he := hf.s h2.2.2 (fun z => by
    have ht := h2.1.1
    rcases h4 with o | o
    · have o0 : ow he = 0 := by rw [o]; exact hh.2 _ hh.1
      rcases hP _ h2.2.2 z with y | y | ⟨y, -, -⟩ <;> omega
    · rcases hP _ h2.2.2 z with y | y | ⟨-, -, y⟩
      · omega
      · omega
      · exact y ht)
  obtain ⟨a1, a2, a3, a4, a5, a6⟩ := h1
  refine ⟨he, hb, ⟨s2.1.trans a1, (s2.2.2.2.2 1).trans a2, (s2.2.2.1 2).trans a3, se.1.trans a4, by rw [se.2.1]; exact a5, a6⟩, h2.fr hf se (fun k q hk hq => ?_), h3, by rw [hf.A]; exact h4, fun k hk => ?_, h6, fun k hk => (se.2.2.2.2 k).trans (h8 k hk), ?_⟩
  · by_cases hkn : k < hn
    · obtain ⟨g1, g2, g3⟩ := h5 k hkn
      rw [g1] at hq; cases hq
      exact (hk' _ _ g2 (by omega)).2.1
    · rw [h8 k (by omega)] at hq; cases hq
  · obtain ⟨g1, g2, g3⟩ := h5 k hk
    exact ⟨(se.2.2.2.2 k).trans g1, (hk' _ _ g2 (by omega)).1, g3⟩
  · cases sv with
    | none => exact e2.trans h7
    | some r =>
      obtain ⟨sb, q1, q2, q3, q4⟩ := h7
      exact ⟨sb, e2.trans q1, (hk' _ _ q2 q3).1, q3, q4⟩
theorem XH.ext (h : XH ow G x c w K A z b hr hn sv) (e : ∀ a, a < gX G → ow' a = ow a) : XH ow' G x c w K A z b hr hn sv := by
  obtain ⟨he, hb, h1, h2, h3, h4, h5, h6, h8, h7⟩ := h
  refine ⟨he, hb, h1, h2, h3, by rw [e _ h2.2.2]; exact h4, fun k hk => ⟨(h5 k hk).1, (h5 k hk).2.1.ext e, (h5 k hk).2.2⟩, h6, h8, ?_⟩
  cases sv with
  | none => exact h7
  | some r =>
    obtain ⟨sb, q1, q2, q3⟩ := h7
    exact ⟨sb, q1, q2.ext e, q3⟩
theorem XF.ext (h : XF ow G x) (e : ∀ a, a < gX G → ow' a = ow a) : XF ow' G x := by
  obtain ⟨h1, h2, h3, h4, h5⟩ := h
  exact ⟨h1, h2, h3, fun j hj => by rw [e _ (by omega)]; exact h4 j hj, h5⟩
/-- THE COMPONENT's world (its text and its output apart) -/
def XW (ow : Nat → Nat) (G : Hp) (x : Nat) (c w : Rw) (K A z b : Nat) (s : Bs) (m : Nat) (r : Rw) (hr : Nat → Rw) (hn : Nat) (sv : Option Rw) : Prop := HO ow G ∧ XF ow G x ∧ gR G x 1 = some b ∧ BB G b s c w r K A m ∧ OW ow G b s m ∧ s.2.1 = z ∧ RJ r K A ∧ XH ow G x c w K A z b hr hn sv
theorem XW.xb (h : XW ow G x c w K A z b s m r hr hn sv) : ¬ x = b := fun e => by
  have h1 := h.2.1.2.2.2.2.1
  have h2 : gT G b = 6 := h.2.2.2.1.1.T (j := 0) (by omega)
  rw [e, h2] at h1
  exact absurd h1 (by decide)
theorem XW.ext (h : XW ow G x c w K A z b s m r hr hn sv) (e : ∀ a, a < gX G → ow' a = ow a) : XW ow' G x c w K A z b s m r hr hn sv := by
  obtain ⟨h1, h2, h3, h4, h5, h6, h7, h8⟩ := h
  exact ⟨h1.ext (by have := h2.2.1; have := h2.2.2.1; omega) e, h2.ext e, h3, h4, h5.ext h4 e, h6, h7, h8.ext e⟩
/-- others write -/
theorem XW.fr1 (h : XW ow G x c w K A z b s m r hr hn sv) (hf : Fr P n y G G') (hP : ∀ a, a < gX G → P a → ow a = 1) : XW ow G' x c w K A z b s m r hr hn sv := by
  have hxb := h.xb
  obtain ⟨h1, h2, h3, h4, h5, h6, h7, h8⟩ := h
  have x1 := h2.1
  have b1 := h5.1
  have sx := hf.s (a := x) (by have := h2.2.2.1; omega) (fun z => by
    have := hP x (by have := h2.2.2.1; omega) z
    have := h2.2.2.2.1 0 (by omega)
    rw [Nat.add_zero] at this; omega)
  obtain ⟨q1, q2⟩ := h4.frame h5 h1 hf (fun a ha z => by have := hP a ha z; omega)
  exact ⟨h1.fr hf, h2.fr0 h1 hf (fun a ha z => by have := hP a ha z; omega), (sx.2.2.2.2 1).trans h3, q1, q2, h6, h7, h8.frame h1 h2 hxb b1 hf (sx.2.2.2.2 2) (fun a ha z => Or.inl (hP a ha z))⟩
end

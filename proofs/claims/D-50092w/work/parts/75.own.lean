/-! the component: who owns a cell; a bus is as it was -/
section
variable {d b n x y m K A : Nat} {G G' : Hp} {s t : Bs} {c w r r' : Rw} {ow : Nat → Nat} {P : Nat → Prop}
theorem BQ.cell {n : Nat} (h : BQ G b s r n m) {q : Nat} (hq : RS G s m q) : inB b q = false ∧ gT G q = 11 := by
  rcases h.2.2.2.2.2.2 with ⟨d1, -, -, d4⟩ | ⟨q0, i, d1, -, -, -, d5, d6, -, d8⟩
  · rcases hq with z | ⟨k, hk, z⟩
    · rw [d1] at z; cases z
    · obtain ⟨q', g1, g2, g3⟩ := d4 k hk
      rw [z] at g1; cases g1
      exact ⟨g2, g3.1⟩
  · rcases hq with z | ⟨k, hk, z⟩
    · rw [d1] at z; cases z
      exact ⟨d5, d6.1⟩
    · obtain ⟨q', g1, g2, g3⟩ := d8 k hk
      rw [z] at g1; cases g1
      exact ⟨g2, g3.1⟩
theorem BQ.same {n : Nat} (h : BQ G b s r n m) (hB : gB G' = gB G) (e3 : sameC G G' s.2.2.2.2) (e4 : ∀ q, RS G s m q → sameC G G' q) : BQ G' b s r n m := by
  obtain ⟨c1, c2, c3, c4, c5, c6, c7⟩ := h
  refine ⟨e3.1.trans c1, c2, by rw [e3.2.1]; exact c3, fun h0 => by rw [hB]; exact c4 h0, c5, c6, ?_⟩
  rcases c7 with ⟨d1, d2, d3, d4⟩ | ⟨q, i, d1, d2, d3, d4, d5, d6, d7, d8⟩
  · left
    refine ⟨d1, d2, d3, fun k hk => ?_⟩
    obtain ⟨q, g1, g2, g3⟩ := d4 k hk
    exact ⟨q, (e3.2.2.2.2 k).trans g1, g2, g3.same (e4 q (Or.inr ⟨k, hk, g1⟩))⟩
  · right
    refine ⟨q, i, d1, d2, d3, d4, d5, d6.same (e4 q (Or.inl d1)), d7, fun k hk => ?_⟩
    obtain ⟨q, g1, g2, g3⟩ := d8 k hk
    exact ⟨q, (e3.2.2.2.2 k).trans g1, g2, g3.same (e4 q (Or.inr ⟨k, hk, g1⟩))⟩
theorem BS.same (h : BS G b s c w r K A m) (hB : gB G' = gB G) (e1 : ∀ j, j < 8 → sameC G G' (s.2.1 + j)) (e2 : sameC G G' s.2.2.1) (e3 : sameC G G' s.2.2.2.2) (e4 : ∀ q, RS G s m q → sameC G G' q) : BS G' b s c w r K A m := by
  obtain ⟨h1, h2, h3, h4, h5, ⟨h6, t, q1, q2, q3, q4⟩, h7⟩ := h
  exact ⟨by rw [hB]; exact h1, h2.same e1, h3, h4, h5, ⟨h6, t, q1, q2, e2.1.trans q3, (e2.2.2.1 0).trans q4⟩, h7.same hB e3 e4⟩
/-- a block is written: the rest of a bus stands -/
theorem BS.bst (h : BS G b s c w r K A m) : BS (bst G b t) b s c w r K A m := by
  obtain ⟨-, -, h3, -, -, ⟨h6, -⟩, h7⟩ := id h
  exact h.same rfl (fun j hj => sameC_bst (h3 j hj)) (sameC_bst h6) (sameC_bst h7.2.1) (fun q hq => sameC_bst (h7.cell hq).1)
/-- the setup's requests -/
def ZL (G : Hp) (z : Nat) : Prop := ∃ ez mz, LSq G (z + 4) ez mz
theorem LSq.same {a e n : Nat} (h : LSq G a e n) (hk : gK G' = gK G) (hX : gX G ≤ gX G') (e1 : sameC G G' a) (e2 : sameC G G' e) (hT : ∀ k q, k < n → gR G e k = some q → gT G' q = gT G q) : LSq G' a e n := by
  obtain ⟨⟨a1, a2, a3, a4, a5, a6⟩, q2, q3, q4, q5, q6⟩ := h
  refine ⟨⟨e1.1.trans a1, (e1.2.2.2.2 1).trans a2, (e1.2.2.1 2).trans a3, e2.1.trans a4, by rw [e2.2.1]; exact a5, a6⟩, q2.of hk e2.1 e2.2.1, fun k hk => ?_, q4, by omega, by omega⟩
  rw [e2.2.2.2.2 k]
  have := q3 k hk
  cases hq : gR G e k with
  | none => trivial
  | some q => rw [hq] at this; exact ⟨by rw [hT k q hk hq]; exact this.1, by have := this.2; omega⟩
/-- who owns a setup's cells: nobody may write them -/
def ZO (ow : Nat → Nat) (G : Hp) (z : Nat) : Prop := (∀ j, j < 8 → ow (z + j) = 0) ∧ ∀ ez mz, LSq G (z + 4) ez mz → ow ez = 0 ∧ ∀ k q, k < mz → gR G ez k = some q → ow q = 0
/-- a bus and who owns its cells -/
def OW (ow : Nat → Nat) (G : Hp) (b : Nat) (s : Bs) (m : Nat) : Prop := 1 < b ∧ (∀ j, j < 21 → ow (b + j) = b) ∧ (s.2.2.2.2 = gA G 23 ∨ ow s.2.2.2.2 = b) ∧ (∀ q, RS G s m q → ow q = 0) ∧ ow s.2.2.1 = 0 ∧ ZO ow G s.2.1
def HO (ow : Nat → Nat) (G : Hp) : Prop := gA G 23 < gB G ∧ ∀ a, a < gB G → ow a = 0
theorem AL.u {a e n e' n' : Nat} (h : AL G a e n) (h' : AL G a e' n') : e = e' ∧ n = n' := by
  obtain ⟨a1, a2, a3, a4, a5, a6⟩ := h
  obtain ⟨b1, b2, b3, b4, b5, b6⟩ := h'
  rw [a2] at b2
  cases b2
  rw [a3] at b3
  exact ⟨rfl, (nI_eq (by omega) (by omega)).mp b3⟩
theorem ZO.same {z : Nat} (h : ZO ow G z) (hl : ZL G z) (hz : z + 8 ≤ gX G) (hf : Fr P x y G G') (hP : ∀ a, a < gX G → P a → ¬ ow a = 0) : ZL G' z ∧ ZO ow G' z := by
  obtain ⟨ez, mz, hl⟩ := hl
  have hh := h.2 ez mz hl
  have hS : ∀ a, a < gX G → ow a = 0 → sameC G G' a := fun a ha ho => hf.s ha (fun z => hP a ha z ho)
  have s1 := hS (z + 4) (by omega) (h.1 4 (by omega))
  have s2 := hS ez hl.2.2.2.2.2 hh.1
  have hq : ∀ k q, k < mz → gR G ez k = some q → q < gX G := fun k q hk hq => by
    have := hl.2.2.1 k hk
    rw [hq] at this; exact this.2
  have hl' := hl.same hf.1 hf.2.1 s1 s2 (fun k q hk h1 => (hS q (hq k q hk h1) (hh.2 k q hk h1)).1)
  refine ⟨⟨ez, mz, hl'⟩, h.1, fun ez' mz' h2 => ?_⟩
  obtain ⟨rfl, rfl⟩ := hl'.1.u h2.1
  refine ⟨hh.1, fun k q hk h1 => hh.2 k q hk ?_⟩
  rw [← s2.2.2.2.2 k]; exact h1
/-- a bus that nobody writes -/
theorem BB.frame (h : BB G b s c w r K A m) (ho : OW ow G b s m) (hh : HO ow G) (hf : Fr P x y G G') (hP : ∀ a, a < gX G → P a → ¬ ow a = 0 ∧ ¬ ow a = b) : BB G' b s c w r K A m ∧ OW ow G' b s m := by
  obtain ⟨i0, hS, hLB, hbx, hzx, hcx, htx, hl⟩ := h
  obtain ⟨o1, o2, o3, o4, o5, o6⟩ := ho
  have s0 : ∀ a, a < gX G → ow a = 0 → sameC G G' a := fun a ha h0 => hf.s ha (fun z => (hP a ha z).1 h0)
  have sb : ∀ a, a < gX G → ow a = b → sameC G G' a := fun a ha h0 => hf.s ha (fun z => (hP a ha z).2 h0)
  have hX := hf.2.1
  have se : sameC G G' s.2.2.2.2 := by
    rcases o3 with z | z
    · exact s0 _ hLB.2 (by rw [z]; exact hh.2 _ hh.1)
    · exact sb _ hLB.2 z
  have hrs : ∀ q, RS G' s m q → RS G s m q := fun q hq => by
    rcases hq with z | ⟨k, hk, z⟩
    · exact Or.inl z
    · exact Or.inr ⟨k, hk, (se.2.2.2.2 k).symm.trans z⟩
  obtain ⟨z1, z2⟩ := o6.same hl hzx hf (fun a ha hp => (hP a ha hp).1)
  refine ⟨⟨i0.same (fun i => hf.A i) (fun j hj => sb _ (by omega) (o2 j hj)), hS.same hf.B (fun j hj => s0 _ (by omega) (o6.1 j hj)) (s0 _ htx o5) se (fun q hq => s0 q (hcx q hq) (o4 q hq)), ⟨hLB.1.of hf.1 se.1 se.2.1, by have := hLB.2; omega⟩, by omega, by omega, fun q hq => by have := hcx q (hrs q hq); omega, by omega, z1⟩,
    o1, o2, by rw [hf.A]; exact o3, fun q hq => o4 q (hrs q hq), o5, z2⟩
/-- another word on owners that agrees on what is there -/
theorem OW.ext {ow' : Nat → Nat} (ho : OW ow G b s m) (h : BB G b s c w r K A m) (e : ∀ a, a < gX G → ow' a = ow a) : OW ow' G b s m := by
  obtain ⟨i0, hS, hLB, hbx, hzx, hcx, htx, hl⟩ := h
  obtain ⟨o1, o2, o3, o4, o5, o6, o7⟩ := ho
  refine ⟨o1, fun j hj => by rw [e _ (by omega)]; exact o2 j hj, ?_, fun q hq => by rw [e _ (hcx q hq)]; exact o4 q hq, by rw [e _ htx]; exact o5, fun j hj => by rw [e _ (by omega)]; exact o6 j hj, fun ez mz h2 => ?_⟩
  · rw [e _ hLB.2]; exact o3
  · obtain ⟨q1, q2⟩ := o7 ez mz h2
    refine ⟨by rw [e _ h2.2.2.2.2.2]; exact q1, fun k q hk hq => ?_⟩
    have := h2.2.2.1 k hk
    rw [hq] at this
    rw [e _ this.2]; exact q2 k q hk hq
theorem HO.ext {ow' : Nat → Nat} (h : HO ow G) (hb : gB G ≤ gX G) (e : ∀ a, a < gX G → ow' a = ow a) : HO ow' G := ⟨h.1, fun a ha => by rw [e a (by omega)]; exact h.2 a ha⟩
theorem HO.fr (h : HO ow G) (hf : Fr P x y G G') : HO ow G' := ⟨by rw [hf.A, hf.B]; exact h.1, fun a ha => h.2 a (by rw [← hf.B]; exact ha)⟩
/-- what a bus may write -/
def ownB (G : Hp) (b : Nat) (s : Bs) (q : Nat) : Prop := (b ≤ q ∧ q < b + 21) ∨ (q = s.2.2.2.2 ∧ gB G ≤ s.2.2.2.2)
theorem Fr_bst : Fr (fun q => b ≤ q ∧ q < b + 21) 0 0 G (bst G b s) := ⟨rfl, Nat.le_refl _, Nat.le_refl _, Nat.le_refl _, Nat.le_refl _, fun a ha h => sameC_bst (inB_f.mpr (by omega))⟩
/-- what a step of a bus leaves -/
theorem BB.upd {f : Nat → Option Nat} {m' : Nat} (h : BB G b s c w r K A m) (ho : OW ow G b s m) (hh : HO ow G) (h2 : BS (sRr G s.2.2.2.2 f) b t c w r' K A m') (e1 : t.2.1 = s.2.1) (e2 : t.2.2.1 = s.2.2.1) (e3 : t.2.2.2.2 = s.2.2.2.2) (hf : gB G ≤ s.2.2.2.2 ∨ f = gR G s.2.2.2.2) (hr : ∀ q, RS (sRr G s.2.2.2.2 f) t m' q → RS G s m q) :
    BB (bst (sRr G s.2.2.2.2 f) b t) b t c w r' K A m' ∧ Fr (ownB G b s) 0 0 G (bst (sRr G s.2.2.2.2 f) b t) ∧ (∀ q, RS (bst (sRr G s.2.2.2.2 f) b t) t m' q → RS G s m q) ∧ OW ow (bst (sRr G s.2.2.2.2 f) b t) b t m' := by
  obtain ⟨i0, hS, hLB, hbx, hzx, hcx, htx, hl⟩ := h
  obtain ⟨o1, o2, o3, o4, o5, o6⟩ := ho
  have eo : inB b s.2.2.2.2 = false := hS.2.2.2.2.2.2.2.1
  have f1 : Fr (fun q => q = s.2.2.2.2 ∧ gB G ≤ s.2.2.2.2) 0 0 G (sRr G s.2.2.2.2 f) := by
    rcases hf with z | z
    · exact Fr_sRr.mono (fun a _ q => ⟨q, z⟩) (Nat.le_refl _) (Nat.le_refl _)
    · rw [z, sRr_id]; exact Fr.refl
  have ff : Fr (ownB G b s) 0 0 G (bst (sRr G s.2.2.2.2 f) b t) := (f1.trans Fr_bst).mono (fun a _ z => z.symm) (Nat.le_refl _) (Nat.le_refl _)
  have hRe : ∀ k, gR (bst (sRr G s.2.2.2.2 f) b t) s.2.2.2.2 k = f k := fun k => by rw [bst_Rr eo, sRr_s]
  have hrs : ∀ q, RS (bst (sRr G s.2.2.2.2 f) b t) t m' q → RS G s m q := fun q hq => hr q (by
    rcases hq with z | ⟨k, hk, z⟩
    · exact Or.inl z
    · refine Or.inr ⟨k, hk, ?_⟩
      rw [e3] at z ⊢
      rw [sRr_s]; rw [hRe] at z; exact z)
  have hT : ∀ q, gT (bst (sRr G s.2.2.2.2 f) b t) q = gT G q := fun q => by
    by_cases y : inB b q = true
    · have y' := y
      unfold inB at y'
      simp only [Bool.and_eq_true, decide_eq_true_eq] at y'
      obtain ⟨j, hj⟩ : ∃ j, q = b + j := ⟨q - b, by omega⟩
      subst hj
      rw [bst_T (by omega), i0.T (by omega)]
    · rw [Bool.not_eq_true] at y
      rw [bst_Tr y]; rfl
  have hP : ∀ a, a < gX G → ownB G b s a → ¬ ow a = 0 := fun a ha hp => by
    rcases hp with z | ⟨z1, z2⟩
    · obtain ⟨j, hj⟩ : ∃ j, a = b + j := ⟨a - b, by omega⟩
      rw [hj, o2 j (by omega)]; omega
    · rcases o3 with y | y
      · have := hh.1; omega
      · rw [z1, y]; omega
  obtain ⟨z1, z2⟩ := o6.same hl hzx ff hP
  refine ⟨⟨bst_isB, h2.bst, ?_, by show b + 21 ≤ gX G; omega, by rw [e1]; exact hzx, fun q hq => hcx q (hrs q hq), by rw [e2]; exact htx, by rw [e1]; exact z1⟩, ff, hrs, o1, o2, by rw [e3]; exact o3, fun q hq => o4 q (hrs q hq), by rw [e2]; exact o5, by rw [e1]; exact z2⟩
  rw [e3]
  exact ⟨hLB.1.of rfl (hT _) (by rw [bst_Nr eo]; rfl), hLB.2⟩
/-- the new bus of a copy -/
def owB (ow : Nat → Nat) (X b : Nat) : Nat → Nat := fun a => if X ≤ a then b else ow a
theorem owB_lo {X a : Nat} (h : a < X) : owB ow X b a = ow a := if_neg (by omega)
theorem owB_hi {X a : Nat} (h : X ≤ a) : owB ow X b a = b := if_pos h
theorem OW.copy {t : Bs} {b' : Nat} (ho : OW ow G b s m) (hh : HO ow G) (h : BB G b s c w r K A m) (hf : Fr (fun _ => False) x y G G') (hb : gX G ≤ b') (h0 : 1 < b') (e1 : t.2.1 = s.2.1) (e2 : t.2.2.1 = s.2.2.1) (e3 : t.2.2.2.1 = s.2.2.2.1) (e4 : t.2.2.2.2 = gA G 23 ∨ gX G ≤ t.2.2.2.2) (e5 : ∀ k, k < m → gR G' t.2.2.2.2 k = gR G s.2.2.2.2 k) :
    OW (owB ow (gX G) b') G' b' t m := by
  obtain ⟨i0, hS, hLB, hbx, hzx, hcx, htx, hl⟩ := h
  obtain ⟨o1, o2, o3, o4, o5, o6⟩ := ho
  obtain ⟨z1, z2⟩ := o6.same hl hzx hf (fun a ha hp => absurd hp id)
  refine ⟨h0, fun j hj => owB_hi (by omega), ?_, fun q hq => ?_, by rw [e2, owB_lo htx]; exact o5, fun j hj => by rw [e1, owB_lo (by omega)]; exact o6.1 j hj, fun ez mz h2 => ?_⟩
  · rcases e4 with z | z
    · left; rw [z, hf.A]
    · right; exact owB_hi z
  · have hq' : RS G s m q := by
      rcases hq with z | ⟨k, hk, z⟩
      · exact Or.inl (e3.symm.trans z)
      · exact Or.inr ⟨k, hk, (e5 k hk).symm.trans z⟩
    rw [owB_lo (hcx q hq')]; exact o4 q hq'
  · rw [e1] at h2
    obtain ⟨q1, q2⟩ := z2.2 ez mz h2
    obtain ⟨ez', mz', hl'⟩ := hl
    have s1 := hf.s (a := s.2.1 + 4) (by omega) id
    have h3 : AL G' (s.2.1 + 4) ez' mz' := by
      have s2 := hf.s (a := ez') hl'.2.2.2.2.2 id
      obtain ⟨a1, a2, a3, a4, a5, a6⟩ := hl'.1
      exact ⟨s1.1.trans a1, (s1.2.2.2.2 1).trans a2, (s1.2.2.1 2).trans a3, s2.1.trans a4, by rw [s2.2.1]; exact a5, a6⟩
    obtain ⟨rfl, rfl⟩ := h2.1.u h3
    have s2 := hf.s (a := ez) hl'.2.2.2.2.2 id
    refine ⟨by rw [owB_lo hl'.2.2.2.2.2]; exact q1, fun k q hk hq => ?_⟩
    have := hl'.2.2.1 k hk
    rw [← s2.2.2.2.2 k, hq] at this
    rw [owB_lo this.2]; exact q2 k q hk hq
end

/-! the component: a bus is made: its requests -/
/-- a list's cells may be read -/
def LSq (G : Hp) (a e m : Nat) : Prop := AL G a e m ∧ EL G e ∧ OKE G e m ∧ m ≤ 40 ∧ a < gX G ∧ e < gX G
/-- a bus's list may be written -/
def LB (G : Hp) (e : Nat) : Prop := EL G e ∧ OKE G e (gN G e) ∧ e < gX G
section
variable {d b z K A ty a2 e2 m2 n : Nat} {G : Hp} {c w : Rw} {s : Bs}
theorem isB.sI0 {k : Nat} {x : Int32} (h : isB G b s) : isB (sI G b k x) b (bI s 0 (va_up (s.1 0) k x)) := by
  have q := bst_sI0 (G := G) (b := b) (s := s) (k := k) (x := x)
  rw [isB_bst h] at q
  rw [q]; exact bst_isB
theorem isB.T {j : Nat} (h : isB G b s) (hj : j < 21) : gT G (b + j) = bT j := (h j hj).1
theorem isB.I {j k : Nat} (h : isB G b s) (hj : j < 21) : gI G (b + j) k = s.1 j k := (h j hj).2.2.1 k
theorem isB.R {j k : Nat} (h : isB G b s) (hj : j < 21) : gR G (b + j) k = bR (gA G) b s j k := (h j hj).2.2.2 k
theorem bR_s {A' : Nat → Nat} {j k : Nat} {s' : Bs} (h : s'.2 = s.2) : bR A' b s' j k = bR A' b s j k := by unfold bR; rw [h]
theorem bR_E {A' : Nat → Nat} {j k e : Nat} {f : Rw} (h : ¬ (j = 13 ∧ k = 1)) : bR A' b (bE (bI s 13 f) e) j k = bR A' b s j k := by
  unfold bE bI bR
  split <;> first | rfl | (split <;> first | rfl | (exact absurd ⟨rfl, rfl⟩ h))
theorem EL.of {G' : Hp} {e : Nat} (h : EL G e) (hk : gK G' = gK G) (hT : gT G' e = gT G e) (hN : gN G' e = gN G e) : EL G' e := by
  unfold EL at h ⊢
  have h1 : gB G' = gB G := congrArg Prod.fst hk
  have h2 : gA G' 23 = gA G 23 := congrFun (congrArg Prod.snd hk) 23
  rw [hT, hN, h1, h2]; exact h
theorem OKE.of {G' : Hp} {e m : Nat} (h : OKE G e m) (hX : gX G ≤ gX G') (hR : ∀ k, gR G' e k = gR G e k) (hT : ∀ q, q < gX G → gT G' q = gT G q) : OKE G' e m := fun k hk => by
  rw [hR]
  have := h k hk
  cases hq : gR G e k with
  | none => trivial
  | some q => rw [hq] at this; exact ⟨by rw [hT q this.2]; exact this.1, by have := this.2; omega⟩
theorem s_addB (hb : gB G ≤ b) (hbx : b + 21 ≤ gX G) (h0 : s.1 13 2 = 0) (ho : inB b s.2.2.2.2 = false) (h : LB (bst G b s) s.2.2.2.2) (h2 : LSq (bst G b s) a2 e2 m2) (h23 : gA G 23 < gB G) :
    ∃ v G' e' f, XP PP (d + 3) 318 0 [.ref (b + 13), .ref a2, UV, UV, UV, UV] [] (bst G b s) = some (.inl (some (.int v)), G') ∧ Fr (fun q => q = b + 13 ∨ (q = s.2.2.2.2 ∧ gB G ≤ s.2.2.2.2)) 2 160 (bst G b s) G' ∧ isB G' b (bE (bI s 13 f) e') ∧ f 2 = nI m2 ∧ LB G' e' ∧ AL G' (b + 13) e' m2 ∧
      (∀ k, k < m2 → gR G' e' k = gR (bst G b s) e2 k) ∧ (e' = s.2.2.2.2 ∨ gX G ≤ e') := by
  obtain ⟨g1, g2, g3, g4, g5, g6⟩ := h2
  have hAL : AL (bst G b s) (b + 13) s.2.2.2.2 0 := ⟨bst_T (j := 13) (by omega), bst_R (j := 13) (by omega), by rw [bst_I (j := 13) (by omega)]; exact h0, h.1.1, Nat.zero_le _, by omega⟩
  obtain ⟨v, G', e', r1, r2, r3, r4, r5, r6, r7, r8, r9, r10, r11⟩ := s_alAddAll0 (d := d) hAL g1 h.1 g2 (show gB G ≤ b + 13 by omega) (show b + 13 < gX G by omega) h.2.2 g6 (show gB G ≤ gX G by omega) h.2.1 g3 g4 h23
  refine ⟨v, G', e', gI G' (b + 13), r1, r2, ?_, r3.2.2.1, ⟨r4, r7, r5⟩, r3, r6, r8⟩
  have hA : gA G' = gA G := funext fun i => r2.A i
  have ho' := inB_f.mp ho
  intro j hj
  by_cases e : j = 13
  · subst e
    refine ⟨?_, ?_, fun k => ?_, fun k => ?_⟩
    · exact r3.1
    · rw [r10, bst_N (by omega)]
    · exact (congrFun (bI_s (s := s) (j := 13) (f := gI G' (b + 13))) k).symm
    · by_cases q : k = 1
      · subst q; exact r3.2.1
      · rw [r9 k q, bst_R (by omega), bR_E (by omega), hA]
  · have hs := r2.s (a := b + j) (show b + j < gX G by omega) (by rintro (z | ⟨z, -⟩) <;> omega)
    refine ⟨hs.1.trans (bst_T hj), hs.2.1.trans (bst_N hj), fun k => (hs.2.2.1 k).trans ((bst_I hj).trans ?_), fun k => (hs.2.2.2.2 k).trans ((bst_R hj).trans ?_)⟩
    · exact (congrFun (bI_o (s := s) (f := gI G' (b + 13)) e) k).symm
    · rw [bR_E (by omega), hA]
set_option maxHeartbeats 4000000
set_option maxRecDepth 20000
theorem adv_same {n S a : Nat} (h : a < b) : sameC G (adv G b n S) a := ⟨rfl, rfl, fun _ => rfl, fun _ => if_neg (by rw [Bool.not_eq_true, inU_f]; omega), fun _ => rfl⟩
theorem Fr_adv {n S : Nat} (hS : gS G ≤ S) : Fr (fun _ => False) n (S - gS G) G (adv G (gX G) n S) := ⟨rfl, by show _ ≤ gX G + n; omega, by show gX G + n ≤ _; omega, hS, by show S ≤ _; omega, fun a ha _ => adv_same ha⟩
/-- what a bus is at its making -/
def NB (G : Hp) (z K m : Nat) (s : Bs) : Prop := s.1 17 3 = nI K ∧ s.1 0 20 = nI m ∧ (∀ k, ¬ k = 20 → s.1 0 k = 0) ∧ (∀ k, k < 8 → s.1 1 k = gI G (z + 6) k) ∧ (∀ k, k < 40 → s.1 7 k = nI (k % 5)) ∧ (∀ k, k < 5 → s.1 8 k = nI k) ∧ (∀ k, k < 5 → s.1 9 k = gI G (z + 5) k) ∧
  (∀ j k, j = 2 ∨ j = 3 ∨ j = 4 ∨ j = 5 ∨ j = 6 ∨ j = 10 ∨ j = 11 ∨ j = 12 → s.1 j k = 0) ∧ s.1 13 2 = nI m
theorem s_ctor (hb : gB G ≤ gX G) (hz : z + 8 ≤ gX G) (hS : SU G z c w K A) (hL : CLM G) (h23 : gA G 23 < gB G ∧ gT G (gA G 23) = 110 ∧ gN G (gA G 23) = 0) (hl : LSq G (z + 4) a2 m2) :
    ∃ G' s', XP PP (d + 6) 113 0 [.ref (gX G), .ref z, .ref ty, UV, UV] [] (nw G 6 26) = some (.inl none, G') ∧ Fr (fun _ => False) 23 723 G G' ∧ isB G' (gX G) s' ∧ NB G z K m2 s' ∧ s'.2.1 = z ∧ s'.2.2.1 = ty ∧ s'.2.2.2.1 = none ∧ LB G' s'.2.2.2.2 ∧ AL G' (gX G + 13) s'.2.2.2.2 m2 ∧
      (∀ k, k < m2 → gR G' s'.2.2.2.2 k = gR G a2 k) ∧ (s'.2.2.2.2 = gA G 23 ∨ gX G ≤ s'.2.2.2.2) ∧ gX G + 21 ≤ gX G' := by
  obtain ⟨b, hbX⟩ : ∃ b, b = gX G := ⟨_, rfl⟩
  rw [← hbX]
  have hz' : oB b z := fun j hj => inB_f.mpr (Or.inl (by omega))
  have e0 : nw G 6 26 = ub bT bN G b 1 (gS G + 26) (fun _ _ => 0) (fun _ _ => none) := by rw [hbX]; exact ub_1 rfl rfl
  have c1 := s_ctor1 (d := d) (b := b) (S := gS G + 26) (ty := ty) (by omega) (by omega) hS hL
  obtain ⟨G1, hG1⟩ : ∃ G1, G1 = adv G b 21 (gS G + 26 + 537) := ⟨_, rfl⟩
  rw [← hG1] at c1
  have f1 : Fr (fun _ => False) 21 563 G G1 := by rw [hG1, hbX]; exact (Fr_adv (by omega)).mono (fun _ _ z => z) (by omega) (by omega)
  have hS1 : SU G1 z c w K A := hS.same fun j hj => f1.s (by omega) id
  have c2 := s_ctor2 (d := d) (b := b) (G := G1) (s := bs0 G z ty (nI K)) (ty := ty) (v3 := UV) (v4 := UV) (by rw [f1.B]; omega) hz' hS1 rfl
  obtain ⟨s2, hs2⟩ : ∃ s2, s2 = bs1 G1 z (bs0 G z ty (nI K)) := ⟨_, rfl⟩
  rw [← hs2] at c2
  have hX1 : gX G1 = b + 21 := by rw [hG1]; rfl
  have e2 : s2.2 = (z, ty, none, gA G 23) := by rw [hs2]; rfl
  have ho : inB b s2.2.2.2.2 = false := by rw [e2]; exact inB_f.mpr (Or.inl (by dsimp only; omega))
  have i13 : s2.1 13 2 = 0 := by rw [hs2]; rfl
  have hsm : ∀ a, a < b → sameC G (bst G1 b s2) a := fun a ha => (f1.s (by omega) id).trans (sameC_bst (inB_f.mpr (Or.inl ha)))
  have fk : gK (bst G1 b s2) = gK G := f1.1
  have fX : gX G ≤ gX (bst G1 b s2) := f1.2.1
  have h2 : LSq (bst G1 b s2) (z + 4) a2 m2 := by
    obtain ⟨q1, q2, q3, q4, q5, q6⟩ := hl
    have ha := hsm (z + 4) (by omega)
    have he := hsm a2 (by omega)
    exact ⟨⟨ha.1.trans q1.1, (ha.2.2.2.2 1).trans q1.2.1, (ha.2.2.1 2).trans q1.2.2.1, he.1.trans q1.2.2.2.1, by rw [he.2.1]; exact q1.2.2.2.2.1, q1.2.2.2.2.2⟩, q2.of fk he.1 he.2.1, q3.of fX he.2.2.2.2 (fun q hq => (hsm q (by omega)).1), q4, by omega, by omega⟩
  have h1 : LB (bst G1 b s2) s2.2.2.2.2 := by
    rw [e2]
    have he := hsm (gA G 23) (by omega)
    have hN : gN (bst G1 b s2) (gA G 23) = 0 := he.2.1.trans h23.2.2
    exact ⟨⟨he.1.trans h23.2.1, by show gN (bst G1 b s2) (gA G 23) ≤ 60; omega, Or.inl ⟨(f1.A 23).symm, hN⟩⟩, fun k hk => by (have : k < gN (bst G1 b s2) (gA G 23) := hk); omega, by show gA G 23 < gX (bst G1 b s2); omega⟩
  obtain ⟨v, G', e', f, r1, r2, r3, r4, r5, r6, r7, r8⟩ := s_addB (d := d + 2) (by rw [f1.B]; omega) (by omega) i13 ho h1 h2 (by rw [f1.A, f1.B]; exact h23.1)
  obtain ⟨s3, hs3⟩ : ∃ s3, s3 = bE (bI s2 13 f) e' := ⟨_, rfl⟩
  rw [← hs3] at r3
  have e3 : s3.2.2.2.2 = e' := by rw [hs3]; rfl
  have f2 : Fr (fun _ => False) 21 563 G (bst G1 b s2) := ⟨f1.1, f1.2.1, f1.2.2.1, f1.2.2.2.1, f1.2.2.2.2.1, fun a ha _ => hsm a (by omega)⟩
  have ff : Fr (fun _ => False) 23 723 G G' := (f2.trans r2).mono (fun a ha z => by
    rcases z with z | z | z
    · exact z
    · omega
    · have q1 := z.2
      have q2 : s2.2.2.2.2 = gA G 23 := by rw [e2]
      have q3 := f1.B
      omega) (by omega) (by omega)
  have ss := fun d => s_alSize (d := d) r6
  have t0 : gT G' b = 6 := r3.T (j := 0) (by omega)
  have q13 : gR G' b 13 = some (b + 13) := r3.R (j := 0) (by omega)
  have tz : gT (bst G1 b s2) z = 5 := (hsm z (by omega)).1.trans hS.1
  have rz : gR (bst G1 b s2) z 3 = some (z + 4) := ((hsm z (by omega)).2.2.2.2 3).trans hS.2.2.2.2.1
  have tz4 : gT (bst G1 b s2) (z + 4) = 13 := h2.1.1
  have hb' : gB G' ≤ b := by rw [ff.B]; omega
  refine ⟨sI G' b 20 (nI m2), bI s3 0 (va_up (s3.1 0) 20 (nI m2)), ?_, ?_, r3.sI0, ?_, ?_, ?_, ?_, ?_, ?_, ?_, ?_, ?_⟩
  · rw [e0, c1, c2]
    simp [x113_261, x113_262, x113_265, x113_266, x113_269_13, x113_269_19, x113_274, x113_275, x113_276, x113_277, x113_280_13, x113_280_19, x113_285, x113_288, bst_T0, bst_T, bst_N, bst_I0, bst_I, bst_R0, bst_R, bst_B, bst_X, bst_S, bst_A, bst_sI, bst_sI0, bst_sC, bst_sY, bst_sE, bI_s, bI_o, bI_2, bI_bI, bC_1, bY_1, bE_1, bT, bN, bR, rf_ref, rf_va, rf_null, c1_int, c1_ref, c1_UV, rvo_n, rvo_r, c1_null, c1_va, up_s, up_o, va_rf_some, va_rf_none, litA, litB, litM, nI_add, okZ_0, okZ_1, okZ_zb, zb_0, gB_add, inb_lit, cl_lit, Nat.lt_irrefl, ↓reduceIte, if_true, if_false, RP_v, RP_n, tz, rz, tz4, r1, t0, q13, ss, r6.1, hb']
  · exact (ff.trans Fr_sI).mono (fun a ha z => by
      rcases z with z | z
      · exact z
      · omega) (by omega) (by omega)
  · have p5 : ∀ k, gI G1 (z + 5) k = gI G (z + 5) k := (f1.s (by omega) id).2.2.1
    have p6 : ∀ k, gI G1 (z + 6) k = gI G (z + 6) k := (f1.s (by omega) id).2.2.1
    have o : ∀ j k, ¬ j = 0 → ¬ j = 13 → (bI s3 0 (va_up (s3.1 0) 20 (nI m2))).1 j k = s2.1 j k := fun j k h0 h13 => by
      rw [bI_o h0, hs3]
      show (bI s2 13 f).1 j k = _
      rw [bI_o h13]
    refine ⟨?_, ?_, fun k hk => ?_, fun k hk => ?_, fun k hk => ?_, fun k hk => ?_, fun k hk => ?_, fun j k hj => ?_, ?_⟩
    · rw [o 17 3 (by decide) (by decide), hs2]; rfl
    · rw [bI_s, up_s]
    · rw [bI_s, up_o hk, hs3, hs2]; rfl
    · rw [o 1 k (by decide) (by decide), hs2]
      show va_cpy (gI G1 (z + 6)) _ 0 0 8 k = _
      unfold va_cpy
      rw [if_pos (by omega), p6]; congr 1; omega
    · rw [o 7 k (by decide) (by decide), hs2]
      show blF _ 40 k = _
      unfold blF; rw [if_pos hk]
    · rw [o 8 k (by decide) (by decide), hs2]
      show blF _ 5 k = _
      unfold blF; rw [if_pos hk, Nat.mod_eq_of_lt hk]
    · rw [o 9 k (by decide) (by decide), hs2]
      show va_cpy (gI G1 (z + 5)) _ 0 0 5 k = _
      unfold va_cpy
      rw [if_pos (by omega), p5]; congr 1; omega
    · rw [o j k (by omega) (by omega), hs2]
      rcases hj with rfl | rfl | rfl | rfl | rfl | rfl | rfl | rfl <;> rfl
    · rw [bI_o (by decide), hs3]
      show (bI s2 13 f).1 13 2 = _
      rw [bI_s, r4]
  · show s3.2.1 = z
    rw [hs3]; exact congrArg Prod.fst e2
  · show s3.2.2.1 = ty
    rw [hs3]; exact congrArg (fun x => x.2.1) e2
  · show s3.2.2.2.1 = none
    rw [hs3]; exact congrArg (fun x => x.2.2.1) e2
  · show LB (sI G' b 20 (nI m2)) s3.2.2.2.2
    rw [e3]
    exact ⟨r5.1, r5.2.1, r5.2.2⟩
  · show AL (sI G' b 20 (nI m2)) (b + 13) s3.2.2.2.2 m2
    rw [e3]
    obtain ⟨q1, q2, q3, q4, q5, q6⟩ := r6
    exact ⟨q1, q2, by rw [sI_Ia (by omega)]; exact q3, q4, q5, q6⟩
  · intro k hk
    show gR G' s3.2.2.2.2 k = _
    rw [e3, r7 k hk]
    exact (hsm a2 (by have := hl.2.2.2.2.2; omega)).2.2.2.2 k
  · rcases r8 with q | q
    · left; exact e3.trans (q.trans (by rw [e2]))
    · right
      have : b + 21 ≤ e' := by rw [← hX1]; exact q
      show b ≤ s3.2.2.2.2
      omega
  · have := r2.2.1
    show b + 21 ≤ gX G'
    rw [← hX1]; exact this
/-- a list's elements lie outside a bus -/
theorem isB.o {e : Nat} (h : isB G b s) (he : gT G e = 110) : inB b e = false := by
  rw [inB_f]
  by_cases q : b ≤ e ∧ e < b + 21
  · obtain ⟨j, hj⟩ : ∃ j, e = b + j := ⟨e - b, by omega⟩
    subst hj
    rw [h.T (by omega)] at he
    rcases (by omega : j = 0 ∨ j = 1 ∨ j = 2 ∨ j = 3 ∨ j = 4 ∨ j = 5 ∨ j = 6 ∨ j = 7 ∨ j = 8 ∨ j = 9 ∨ j = 10 ∨ j = 11 ∨ j = 12 ∨ j = 13 ∨ j = 14 ∨ j = 15 ∨ j = 16 ∨ j = 17 ∨ j = 18 ∨ j = 19 ∨ j = 20) with rfl | rfl | rfl | rfl | rfl | rfl | rfl | rfl | rfl | rfl | rfl | rfl | rfl | rfl | rfl | rfl | rfl | rfl | rfl | rfl | rfl <;> exact absurd he (by decide)
  · omega
end

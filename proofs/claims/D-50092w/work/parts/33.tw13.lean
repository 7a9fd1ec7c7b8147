/-! the twin: ticks, many of them -/
theorem XP_forY {P : Prog} {d y pc : Nat} {E : Type} (n : Nat) (I : Nat → E → Prop) (L : Nat → E → List Value) (H : Nat → E → Hp) {X : Option (Out × Hp) → Prop} (hs : ∀ j, j < n → ∀ e, I j e → ∃ e', I (j + 1) e' ∧ XP P d y pc (L j e) [] (H j e) = XP P d y pc (L (j + 1) e') [] (H (j + 1) e')) (he : ∀ e, I n e → X (XP P d y pc (L n e) [] (H n e))) :
    ∀ i, i ≤ n → ∀ e, I i e → X (XP P d y pc (L i e) [] (H i e)) := by
  intro i hi
  have : ∀ m i, i + m = n → ∀ e, I i e → X (XP P d y pc (L i e) [] (H i e)) := by
    intro m
    induction m with
    | zero => intro i h e q; rw [Nat.add_zero] at h; subst h; exact he e q
    | succ m ih => intro i h e q; obtain ⟨e', q', z⟩ := hs i (by omega) e q; rw [z]; exact ih (i + 1) (by omega) e' q'
  exact this (n - i) i (by omega)
/-- the setup: K classes, A askers -/
def CF (c : Rw) (K A : Nat) : Prop := c 1 = nI K ∧ 1 ≤ K ∧ K ≤ 5 ∧ c 2 = nI A ∧ 1 ≤ A ∧ A ≤ 8 ∧ ¬ c 4 = 0 ∧ ¬ c 3 = 0
def RJ (r : Rw) (K A : Nat) : Prop := RI r K A (cl (r 9))
theorem RI.n9 {r : Rw} {K A n : Nat} (h : RI r K A n) : cl (r 9) = n := by
  obtain ⟨-, -, -, -, -, ⟨h1, h2, -⟩, -⟩ := h
  rw [h2]
  exact nI_clamp (by omega)
theorem RI.J {r : Rw} {K A n : Nat} (h : RI r K A n) : RJ r K A := by unfold RJ; rw [h.n9]; exact h
/-- the row behind a tick -/
def tkR (c w : Rw) (K A : Nat) (r : Rw) : Rw := tickF c w r (fun _ => 0) K A (cl (r 9))
theorem tkF_indep {c w r f g : Rw} {K A n : Nat} (hK : K ≤ 5) : tickF c w r f K A n = tickF c w r g K A n := by
  have : tk1 c w r f K A = tk1 c w r g K A := by
    unfold tk1
    split
    · unfold orF
      have : va_cpy (tlF c w r f K A (r 1) K) r 0 10 K = va_cpy (tlF c w r g K A (r 1) K) r 0 10 K := by
        funext k
        unfold va_cpy
        by_cases h : 10 ≤ k ∧ k < 10 + K
        · rw [if_pos h, if_pos h]
          exact tlF_indep hK _ (by omega)
        · rw [if_neg h, if_neg h]
      rw [this]
    · rfl
  unfold tickF
  rw [this]
theorem RJ_tk {c w r : Rw} {K A : Nat} (hK : K ≤ 5) (hA : A ≤ 8) (h : RJ r K A) : RJ (tkR c w K A r) K A := by
  obtain ⟨m, q⟩ := RI_tk (c := c) (w := w) (f := fun _ => 0) hK hA h
  exact q.J
def itR (c w : Rw) (K A : Nat) : Nat → Rw → Rw
  | 0, r => r
  | m + 1, r => tkR c w K A (itR c w K A m r)
theorem RJ_it {c w r : Rw} {K A m : Nat} (hK : K ≤ 5) (hA : A ≤ 8) (h : RJ r K A) : RJ (itR c w K A m r) K A := by
  induction m with
  | zero => exact h
  | succ m ih => exact RJ_tk hK hA ih
section
variable {d o : Nat} {G : Hp} {u : Mu}
set_option maxHeartbeats 4000000
theorem s_ticks {K A : Nat} (hb : gB G ≤ o) (hC : CF (u.1 0) K A) (h : RJ (u.1 4) K A) : ∃ T, XP PP (d + 8) 158 0 [.ref o, UV] [] (mst G o u) = some (.inl none, mst G o (uR (uR u 4 (tkR (u.1 0) (u.1 1) K A (u.1 4))) 10 T)) := by
  obtain ⟨c1, -, hK, c2, hA1, hA, c4, c3⟩ := hC
  unfold RJ at h
  obtain ⟨n, hn⟩ : ∃ n, n = cl (u.1 4 9) := ⟨_, rfl⟩
  unfold tkR
  rw [← hn] at h ⊢
  have hTI : TI (u.1 0) (u.1 4) K A n := by
    obtain ⟨a1, a2, a3, a4, a5, a6, a7⟩ := h
    exact ⟨RI.VW ⟨a1, a2, a3, a4, a5, a6, a7⟩ c1 hK c2 hA, a6.rqs hK hA, a1.1, a6.nn7, a6.2.2.2.1, c4, c3⟩
  obtain ⟨T, e1⟩ := s_tick1 (d := d) hb hTI
  refine ⟨T, ?_⟩
  rw [tkF_indep (g := u.1 10) hK, e1]
  have q1 : RI (tk1 (u.1 0) (u.1 1) (u.1 4) (u.1 10) K A) K A n := by
    unfold tk1
    split
    · exact RI_or hK hA h (tlF_in hK h.2.1.1) (tlF_sur hK h.2.1.2)
    · exact h
  generalize hr1 : tk1 (u.1 0) (u.1 1) (u.1 4) (u.1 10) K A = r1 at q1
  have e2 := s_tick2 (d := d) (G := G) (o := o) (u := uR (uR u 4 r1) 10 T) (t := u.1 4 0) hb c2 hA q1.1.1 c3
  have ea : (uR (uR u 4 r1) 10 T).1 4 = r1 := by rw [uR_o (by decide), uR_s]
  have ec : (uR (uR u 4 r1) 10 T).1 0 = u.1 0 := by rw [uR_o (by decide), uR_o (by decide)]
  rw [ea, ec] at e2
  rw [e2]
  have q2 : RI (tk2 (u.1 0) r1 (u.1 4 0) A) K A n := by
    unfold tk2
    split
    · exact RI_ps hK hA q1
    · exact q1
  generalize hr2 : tk2 (u.1 0) r1 (u.1 4 0) A = r2 at q2
  rw [uc10_4, uR_uR]
  have e3 := s_tick3 (A := A) (d := d) (G := G) (o := o) (u := uR (uR u 4 r2) 10 T) (t := u.1 4 0) (n := n) hb c1 hK (by rw [uR_o (by decide), uR_s]; exact q2.2.2.2.2.2.1.rqs hK hA)
  have eb : (uR (uR u 4 r2) 10 T).1 4 = r2 := by rw [uR_o (by decide), uR_s]
  rw [eb] at e3
  rw [e3, uc10_4, uR_uR]
  have q3 : RI (tk3 r2 K n) K A n := by
    unfold tk3
    split
    · rename_i z
      exact RI_nx hK hA q2 z
    · exact q2
  generalize hr3 : tk3 r2 K n = r3 at q3
  have eb3 : (uR (uR u 4 r3) 10 T).1 4 = r3 := by rw [uR_o (by decide), uR_s]
  have e4 := s_tick4 (d := d) (G := G) (o := o) (u := uR (uR u 4 r3) 10 T) (t := u.1 4 0) (n := n) hb (by rw [eb3]; exact q3.2.2.2.2.2.1.rqs hK hA) (by rw [eb3]; exact q3.2.2.2.2.2.1.nn7) (by rw [eb3]; exact q3.2.2.2.2.2.1.2.2.2.1)
  rw [eb3] at e4
  rw [e4, uc10_4, uR_uR]
  unfold tickF
  rw [hr1, hr2, hr3]
/-- answeredOf -/
def aoF (r : Rw) (a : Option Nat) : Int32 := match a with
  | none => r 7
  | some a => r (52 + a)
def oI' (a : Option Nat) : Int32 := oI a
theorem s_answeredOf {a : Option Nat} (ha : ∀ k, a = some k → k < 8) : XP PP d 157 0 [.ref o, .int (oI a)] [] (mst G o u) = some (.inl (some (.int (aoF (u.1 4) a))), mst G o u) := by
  cases a with
  | none => simp [x157_0, x157_1, x157_2, x157_5, x157_6, x157_9, x157_11, x157_12, x157_15, x157_16, x157_19, x157_21, x157_22, x157_23, x157_24, rf_ref, c1_int, c1_ref, c1_UV, mst_T0, mst_I0, mst_R0, mst_J0, mst_T, mst_N, mst_I, mst_J, mst_B, mst_sI, mst_sI0, mst_sJ, mst_sJ0, uR_s, uR_o, uR_2, uR_uR, uL_s, uL_o, uL_1, up_s, up_o, mT, mN, mR, va_rf_some, litA, litB, litM, nI_add, okZ_0, okZ_1, okZ_zb, zb_0, gB_add, inb_lit, cl_lit, Nat.lt_irrefl, ↓reduceIte, if_true, if_false, RP_v, RP_n, oI, aoF]
  | some k =>
    have hk := ha k rfl
    have i3 : inb (nI (52 + k)) 718 = true := inb_nI (by omega) (by omega)
    have i4 : (nI (52 + k)).toNatClampNeg = 52 + k := nI_clamp (by omega)
    have i5 : (nI k = -1) = False := m1_nI (by omega)
    simp [x157_0, x157_1, x157_2, x157_5, x157_6, x157_9, x157_11, x157_12, x157_15, x157_16, x157_19, x157_21, x157_22, x157_23, x157_24, rf_ref, c1_int, c1_ref, c1_UV, mst_T0, mst_I0, mst_R0, mst_J0, mst_T, mst_N, mst_I, mst_J, mst_B, mst_sI, mst_sI0, mst_sJ, mst_sJ0, uR_s, uR_o, uR_2, uR_uR, uL_s, uL_o, uL_1, up_s, up_o, mT, mN, mR, va_rf_some, litA, litB, litM, nI_add, okZ_0, okZ_1, okZ_zb, zb_0, gB_add, inb_lit, cl_lit, Nat.lt_irrefl, ↓reduceIte, if_true, if_false, RP_v, RP_n, oI, aoF, i3, i4, i5]
theorem s_goesOn {K A m : Nat} {a : Option Nat} (hb : gB G ≤ o) (hC : CF (u.1 0) K A) (h : RJ (u.1 4) K A) (ha : ∀ k, a = some k → k < 8) (hm : m < 2 ^ 31) :
    ∃ T, XP PP (d + 9) 156 0 [.ref o, .int (nI m), .int (oI a), UV, UV] [] (mst G o u) = some (.inl (some (.int (aoF (itR (u.1 0) (u.1 1) K A m (u.1 4)) a - aoF (u.1 4) a))), mst G o (uR (uR u 4 (itR (u.1 0) (u.1 1) K A m (u.1 4))) 10 T)) := by
  have hK := hC.2.2.1
  have hA := hC.2.2.2.2.2.1
  have hl : ∃ T, XP PP (d + 9) 156 9 [.ref o, .int (nI m), .int (oI a), .int (aoF (u.1 4) a), .int 0] [] (mst G o (uR (uR u 4 (itR (u.1 0) (u.1 1) K A 0 (u.1 4))) 10 (u.1 10))) = some (.inl (some (.int (aoF (itR (u.1 0) (u.1 1) K A m (u.1 4)) a - aoF (u.1 4) a))), mst G o (uR (uR u 4 (itR (u.1 0) (u.1 1) K A m (u.1 4))) 10 T)) := by
    refine XP_forY (X := fun z => ∃ T, z = some (.inl (some (.int (aoF (itR (u.1 0) (u.1 1) K A m (u.1 4)) a - aoF (u.1 4) a))), mst G o (uR (uR u 4 (itR (u.1 0) (u.1 1) K A m (u.1 4))) 10 T))) m (fun _ _ => True) (fun j e => [.ref o, .int (nI m), .int (oI a), .int (aoF (u.1 4) a), .int (nI j)]) (fun j (e : Rw) => mst G o (uR (uR u 4 (itR (u.1 0) (u.1 1) K A j (u.1 4))) 10 e)) ?_ ?_ 0 (Nat.zero_le _) (u.1 10) trivial
    · intro j hj e _
      have e1 : ¬ nI m ≤ nI j := nI_ge hj (by omega)
      have hu : ∀ f, (uR (uR u 4 f) 10 e).1 4 = f := fun f => by rw [uR_o (by decide), uR_s]
      obtain ⟨T, st⟩ := s_ticks (d := d) (G := G) (o := o) (u := uR (uR u 4 (itR (u.1 0) (u.1 1) K A j (u.1 4))) 10 e) (K := K) (A := A) hb hC (by rw [hu]; exact RJ_it hK hA h)
      rw [hu] at st
      refine ⟨T, trivial, ?_⟩
      refine Eq.trans (by first | exact x156_9 | exact x156_9 (rf_ref _) | exact x156_9 rfl) ?_
      simp [x156_0, x156_1, x156_2, x156_5, x156_6, x156_7, x156_11, x156_12, x156_15, x156_16, x156_19, x156_22, x156_25, x156_26, x156_27, x156_30, x156_31, x156_32, rf_ref, c1_int, c1_ref, c1_UV, mst_T0, mst_I0, mst_R0, mst_J0, mst_T, mst_N, mst_I, mst_J, mst_B, mst_sI, mst_sI0, mst_sJ, mst_sJ0, uR_s, uR_o, uR_2, uR_uR, uL_s, uL_o, uL_1, up_s, up_o, mT, mN, mR, va_rf_some, litA, litB, litM, nI_add, okZ_0, okZ_1, okZ_zb, zb_0, gB_add, inb_lit, cl_lit, Nat.lt_irrefl, ↓reduceIte, if_true, if_false, RP_v, RP_n, e1, st, nI_1, itR, uc1_0, uc4_0, uc4_1, uc5_0, uc5_1, uc5_4, uc6_0, uc6_1, uc6_4, uc6_5, uc7_0, uc7_1, uc7_4, uc7_5, uc7_6, uc8_0, uc8_1, uc8_4, uc8_5, uc8_6, uc8_7, uc9_0, uc9_1, uc9_4, uc9_5, uc9_6, uc9_7, uc9_8, uc10_0, uc10_1, uc10_4, uc10_5, uc10_6, uc10_7, uc10_8, uc10_9, uc11_0, uc11_1, uc11_4, uc11_5, uc11_6, uc11_7, uc11_8, uc11_9, uc11_10, uc12_0, uc12_1, uc12_4, uc12_5, uc12_6, uc12_7, uc12_8, uc12_9, uc12_10, uc12_11, uc13_0, uc13_1, uc13_4, uc13_5, uc13_6, uc13_7, uc13_8, uc13_9, uc13_10, uc13_11, uc13_12, uc14_0, uc14_1, uc14_4, uc14_5, uc14_6, uc14_7, uc14_8, uc14_9, uc14_10, uc14_11, uc14_12, uc14_13, uc17_0, uc17_1, uc17_4, uc17_5, uc17_6, uc17_7, uc17_8, uc17_9, uc17_10, uc17_11, uc17_12, uc17_13, uc17_14]
    · intro e _
      refine ⟨e, ?_⟩
      refine Eq.trans (by first | exact x156_9 | exact x156_9 (rf_ref _) | exact x156_9 rfl) ?_
      simp [x156_0, x156_1, x156_2, x156_5, x156_6, x156_7, x156_11, x156_12, x156_15, x156_16, x156_19, x156_22, x156_25, x156_26, x156_27, x156_30, x156_31, x156_32, rf_ref, c1_int, c1_ref, c1_UV, mst_T0, mst_I0, mst_R0, mst_J0, mst_T, mst_N, mst_I, mst_J, mst_B, mst_sI, mst_sI0, mst_sJ, mst_sJ0, uR_s, uR_o, uR_2, uR_uR, uL_s, uL_o, uL_1, up_s, up_o, mT, mN, mR, va_rf_some, litA, litB, litM, nI_add, okZ_0, okZ_1, okZ_zb, zb_0, gB_add, inb_lit, cl_lit, Nat.lt_irrefl, ↓reduceIte, if_true, if_false, RP_v, RP_n, s_answeredOf ha]
  obtain ⟨T, hl⟩ := hl
  refine ⟨T, ?_⟩
  have e0 : uR (uR u 4 (itR (u.1 0) (u.1 1) K A 0 (u.1 4))) 10 (u.1 10) = u := by rw [itR, uR_id, uR_id]
  rw [e0] at hl
  simp [x156_0, x156_1, x156_2, x156_5, x156_6, x156_7, rf_ref, c1_int, c1_ref, c1_UV, mst_T0, mst_I0, mst_R0, mst_J0, mst_T, mst_N, mst_I, mst_J, mst_B, mst_sI, mst_sI0, mst_sJ, mst_sJ0, uR_s, uR_o, uR_2, uR_uR, uL_s, uL_o, uL_1, up_s, up_o, mT, mN, mR, va_rf_some, litA, litB, litM, nI_add, okZ_0, okZ_1, okZ_zb, zb_0, gB_add, inb_lit, cl_lit, Nat.lt_irrefl, ↓reduceIte, if_true, if_false, RP_v, RP_n, s_answeredOf ha, hl]
end

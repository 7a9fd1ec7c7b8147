/-! the twin: a tick -/
theorem cpy_0 {α : Type} (f g : Nat → α) (sp dp : Nat) : va_cpy f g sp dp 0 = g := by
  funext k; unfold va_cpy; exact if_neg (by omega)
theorem cpy_s {α : Type} (f g : Nat → α) (sp dp n : Nat) : va_up (va_cpy f g sp dp n) (dp + n) (f (sp + n)) = va_cpy f g sp dp (n + 1) := by
  funext k
  unfold va_up va_cpy
  by_cases e : k = dp + n
  · subst e
    rw [if_pos rfl, if_pos (by omega)]
    congr 1; omega
  · rw [if_neg e]
    by_cases h : dp ≤ k ∧ k < dp + n
    · rw [if_pos h, if_pos (by omega)]
    · rw [if_neg h, if_neg (by omega)]
theorem cpy_o {α : Type} (f g : Nat → α) {sp dp n k : Nat} (h : ¬ (dp ≤ k ∧ k < dp + n)) : va_cpy f g sp dp n k = g k := if_neg h
theorem m1_nI {i : Nat} (h : i < 2 ^ 31) : (nI i = -1) = False := by
  apply eq_false
  intro z
  have h1 := congrArg Int32.toInt z
  rw [nI_toInt h] at h1
  have h2 : (-1 : Int32).toInt = -1 := by decide
  omega
section
variable {d o : Nat} {G : Hp} {u : Mu}
set_option maxHeartbeats 4000000
/-- the order anew -/
def orF (r T : Rw) (K : Nat) : Rw := va_up (va_up (va_cpy T r 0 10 K) 4 0) 5 (r 5 + 1)
theorem VW_of {c r r' : Rw} {K A : Nat} (h : VW c r K A) (hb : ∀ k, 78 ≤ k → k < 118 → r' k = r k) : VW c r' K A := by
  obtain ⟨h1, h2, h3, h4, h5⟩ := h
  refine ⟨h1, h2, h3, h4, fun a ha k hk => ?_⟩
  obtain ⟨p, hp, e⟩ := h5 a ha k hk
  refine ⟨p, hp, ?_⟩
  unfold bal at e ⊢
  rw [hb _ (by omega) (by omega)]
  exact e
theorem s_ordersAnew {K A : Nat} (hb : gB G ≤ o) (hV : VW (u.1 0) (u.1 4) K A) : XP PP (d + 7) 159 0 [.ref o, UV] [] (mst G o u) = some (.inl (none), mst G o (uR (uR u 4 (orF (u.1 4) (tlF (u.1 0) (u.1 1) (u.1 4) (u.1 10) K A (u.1 4 1) K) K)) 10 (tlF (u.1 0) (u.1 1) (u.1 4) (u.1 10) K A (u.1 4 1) K))) := by
  have st := s_tallies (d := d) (G := G) (o := o) (u := u) (t := u.1 4 1) hb hV
  obtain ⟨h1, h2, h3, h4, h5⟩ := hV
  generalize tlF (u.1 0) (u.1 1) (u.1 4) (u.1 10) K A (u.1 4 1) K = T at st ⊢
  have hl : XP PP (d + 7) 159 12 [.ref o, .int 0] [] (mst G o (uR u 10 T)) = some (.inl none, mst G o (uR (uR u 4 (orF (u.1 4) T K)) 10 T)) := by
    refine Eq.trans (congrArg (fun z => XP PP (d + 7) 159 12 [.ref o, .int 0] [] (mst G o z)) (show uR u 10 T = uR (uR u 4 (va_cpy T (u.1 4) 0 10 0)) 10 T by rw [cpy_0, uR_id])) ?_
    refine XP_for K (fun k => [.ref o, .int (nI k)]) (fun k => mst G o (uR (uR u 4 (va_cpy T (u.1 4) 0 10 k)) 10 T)) ?_ ?_ 0 (Nat.zero_le _)
    · intro k hk
      have e1 : ¬ nI K ≤ nI k := nI_ge hk (by omega)
      have i1 : inb (nI k) 5 = true := inb_nI (by omega) (by omega)
      have i2 : (nI k).toNatClampNeg = k := nI_clamp (by omega)
      have i3 : inb (nI (10 + k)) 718 = true := inb_nI (by omega) (by omega)
      have i4 : (nI (10 + k)).toNatClampNeg = 10 + k := nI_clamp (by omega)
      have cs := cpy_s T (u.1 4) 0 10 k
      rw [Nat.zero_add] at cs
      refine Eq.trans (by first | exact x159_12 | exact x159_12 (rf_ref _) | exact x159_12 rfl) ?_
      simp [x159_0, x159_1, x159_2, x159_5, x159_6, x159_7, x159_10, x159_11, x159_13, x159_14, x159_17, x159_20, x159_21, x159_24, x159_26, x159_27, x159_28, x159_29, x159_32, x159_33, x159_34, x159_35, x159_38, x159_41, x159_42, x159_45, x159_46, x159_47, x159_48, x159_49, x159_52, x159_53, x159_54, x159_57, x159_58, x159_59, x159_60, x159_61, x159_62, rf_ref, c1_int, c1_ref, c1_UV, mst_T0, mst_I0, mst_R0, mst_J0, mst_T, mst_N, mst_I, mst_J, mst_B, mst_sI, mst_sI0, mst_sJ, mst_sJ0, uR_s, uR_o, uR_2, uR_uR, uL_s, uL_o, uL_1, up_s, up_o, mT, mN, mR, va_rf_some, litA, litB, litM, nI_add, okZ_0, okZ_1, okZ_zb, zb_0, gB_add, inb_lit, cl_lit, Nat.lt_irrefl, ↓reduceIte, if_true, if_false, RP_v, RP_n, h1, e1, i1, i2, i3, i4, hb, cs, uc1_0, uc4_0, uc4_1, uc5_0, uc5_1, uc5_4, uc6_0, uc6_1, uc6_4, uc6_5, uc7_0, uc7_1, uc7_4, uc7_5, uc7_6, uc8_0, uc8_1, uc8_4, uc8_5, uc8_6, uc8_7, uc9_0, uc9_1, uc9_4, uc9_5, uc9_6, uc9_7, uc9_8, uc10_0, uc10_1, uc10_4, uc10_5, uc10_6, uc10_7, uc10_8, uc10_9, uc11_0, uc11_1, uc11_4, uc11_5, uc11_6, uc11_7, uc11_8, uc11_9, uc11_10, uc12_0, uc12_1, uc12_4, uc12_5, uc12_6, uc12_7, uc12_8, uc12_9, uc12_10, uc12_11, uc13_0, uc13_1, uc13_4, uc13_5, uc13_6, uc13_7, uc13_8, uc13_9, uc13_10, uc13_11, uc13_12, uc14_0, uc14_1, uc14_4, uc14_5, uc14_6, uc14_7, uc14_8, uc14_9, uc14_10, uc14_11, uc14_12, uc14_13, uc17_0, uc17_1, uc17_4, uc17_5, uc17_6, uc17_7, uc17_8, uc17_9, uc17_10, uc17_11, uc17_12, uc17_13, uc17_14, nI_1]
    · refine Eq.trans (by first | exact x159_12 | exact x159_12 (rf_ref _) | exact x159_12 rfl) ?_
      simp [x159_0, x159_1, x159_2, x159_5, x159_6, x159_7, x159_10, x159_11, x159_13, x159_14, x159_17, x159_20, x159_21, x159_24, x159_26, x159_27, x159_28, x159_29, x159_32, x159_33, x159_34, x159_35, x159_38, x159_41, x159_42, x159_45, x159_46, x159_47, x159_48, x159_49, x159_52, x159_53, x159_54, x159_57, x159_58, x159_59, x159_60, x159_61, x159_62, rf_ref, c1_int, c1_ref, c1_UV, mst_T0, mst_I0, mst_R0, mst_J0, mst_T, mst_N, mst_I, mst_J, mst_B, mst_sI, mst_sI0, mst_sJ, mst_sJ0, uR_s, uR_o, uR_2, uR_uR, uL_s, uL_o, uL_1, up_s, up_o, mT, mN, mR, va_rf_some, litA, litB, litM, nI_add, okZ_0, okZ_1, okZ_zb, zb_0, gB_add, inb_lit, cl_lit, Nat.lt_irrefl, ↓reduceIte, if_true, if_false, RP_v, RP_n, h1, hb, orF, uc1_0, uc4_0, uc4_1, uc5_0, uc5_1, uc5_4, uc6_0, uc6_1, uc6_4, uc6_5, uc7_0, uc7_1, uc7_4, uc7_5, uc7_6, uc8_0, uc8_1, uc8_4, uc8_5, uc8_6, uc8_7, uc9_0, uc9_1, uc9_4, uc9_5, uc9_6, uc9_7, uc9_8, uc10_0, uc10_1, uc10_4, uc10_5, uc10_6, uc10_7, uc10_8, uc10_9, uc11_0, uc11_1, uc11_4, uc11_5, uc11_6, uc11_7, uc11_8, uc11_9, uc11_10, uc12_0, uc12_1, uc12_4, uc12_5, uc12_6, uc12_7, uc12_8, uc12_9, uc12_10, uc12_11, uc13_0, uc13_1, uc13_4, uc13_5, uc13_6, uc13_7, uc13_8, uc13_9, uc13_10, uc13_11, uc13_12, uc14_0, uc14_1, uc14_4, uc14_5, uc14_6, uc14_7, uc14_8, uc14_9, uc14_10, uc14_11, uc14_12, uc14_13, uc17_0, uc17_1, uc17_4, uc17_5, uc17_6, uc17_7, uc17_8, uc17_9, uc17_10, uc17_11, uc17_12, uc17_13, uc17_14, cpy_o]
  simp [x159_0, x159_1, x159_2, x159_5, x159_6, x159_7, x159_10, x159_11, rf_ref, c1_int, c1_ref, c1_UV, mst_T0, mst_I0, mst_R0, mst_J0, mst_T, mst_N, mst_I, mst_J, mst_B, mst_sI, mst_sI0, mst_sJ, mst_sJ0, uR_s, uR_o, uR_2, uR_uR, uL_s, uL_o, uL_1, up_s, up_o, mT, mN, mR, va_rf_some, litA, litB, litM, nI_add, okZ_0, okZ_1, okZ_zb, zb_0, gB_add, inb_lit, cl_lit, Nat.lt_irrefl, ↓reduceIte, if_true, if_false, RP_v, RP_n, st, hl]
/-- on to the next asker -/
def psF (r : Rw) (A : Nat) : Rw :=
  let a := cl (r 2)
  va_up (va_up (if r 3 = 0 then va_up r (36 + a) (if 99 < r (36 + a) + 1 then 99 else r (36 + a) + 1) else r) 3 0) 2 (nI ((a + 1) % A))
theorem s_passesOn {A : Nat} (hb : gB G ≤ o) (hA : u.1 0 2 = nI A) (hA8 : A ≤ 8) (h2 : vp_in (u.1 4 2) A) : XP PP (d + 1) 171 0 [.ref o, UV] [] (mst G o u) = some (.inl (none), mst G o (uR u 4 (psF (u.1 4) A))) := by
  obtain ⟨a, ha, ea⟩ := vp_in_of h2 (by omega)
  have i3 : inb (nI (36 + a)) 718 = true := inb_nI (by omega) (by omega)
  have i4 : (nI (36 + a)).toNatClampNeg = 36 + a := nI_clamp (by omega)
  have i5 : (nI a).toNatClampNeg = a := nI_clamp (by omega)
  have i6 : nI (a + 1) - nI (a + 1) / nI A * nI A = nI ((a + 1) % A) := pk_rem (by omega) (by omega) (by omega)
  have i7 : ¬ nI A = 0 := fun z => by have := (nI_eq (a := A) (b := 0) (by omega) (by omega)).mp z; omega
  unfold psF cl
  rw [ea, i5]
  dsimp only
  by_cases q : u.1 4 3 = 0
  · simp [x171_0, x171_1, x171_4, x171_5, x171_6, x171_7, x171_8, x171_11, x171_12, x171_13, x171_16, x171_17, x171_20, x171_22, x171_23, x171_24, x171_26, x171_27, x171_30, x171_32, x171_33, x171_34, x171_35, x171_36, x171_37, x171_40, x171_41, x171_42, x171_45, x171_46, x171_47, x171_48, x171_49, x171_52, x171_53, x171_54, x171_55, x171_56, x171_57, x171_60, x171_61, x171_62, rf_ref, c1_int, c1_ref, c1_UV, mst_T0, mst_I0, mst_R0, mst_J0, mst_T, mst_N, mst_I, mst_J, mst_B, mst_sI, mst_sI0, mst_sJ, mst_sJ0, uR_s, uR_o, uR_2, uR_uR, uL_s, uL_o, uL_1, up_s, up_o, mT, mN, mR, va_rf_some, litA, litB, litM, nI_add, okZ_0, okZ_1, okZ_zb, zb_0, gB_add, inb_lit, cl_lit, Nat.lt_irrefl, ↓reduceIte, if_true, if_false, RP_v, RP_n, ea, i3, i4, i6, i7, hb, hA, q, s_lesser, nI_1]
  · simp [x171_0, x171_1, x171_4, x171_5, x171_6, x171_7, x171_8, x171_11, x171_12, x171_13, x171_16, x171_17, x171_20, x171_22, x171_23, x171_24, x171_26, x171_27, x171_30, x171_32, x171_33, x171_34, x171_35, x171_36, x171_37, x171_40, x171_41, x171_42, x171_45, x171_46, x171_47, x171_48, x171_49, x171_52, x171_53, x171_54, x171_55, x171_56, x171_57, x171_60, x171_61, x171_62, rf_ref, c1_int, c1_ref, c1_UV, mst_T0, mst_I0, mst_R0, mst_J0, mst_T, mst_N, mst_I, mst_J, mst_B, mst_sI, mst_sI0, mst_sJ, mst_sJ0, uR_s, uR_o, uR_2, uR_uR, uL_s, uL_o, uL_1, up_s, up_o, mT, mN, mR, va_rf_some, litA, litB, litM, nI_add, okZ_0, okZ_1, okZ_zb, zb_0, gB_add, inb_lit, cl_lit, Nat.lt_irrefl, ↓reduceIte, if_true, if_false, RP_v, RP_n, ea, i3, i4, i6, i7, hb, hA, q, nI_1]
/-- the next that's taken -/
def nxB (r : Rw) (n p : Nat) : Bool := !hasB (r 4) (r (10 + p)) && (fst (lnB r n (r (10 + p)) 0) n).isSome
def nxF (r : Rw) (K n : Nat) : Rw := match fst (nxB r n) K with
  | some p => (match fst (lnB r n (r (10 + p)) 0) n with
    | some i => va_up r 8 (r (118 + 6 * i))
    | none => r)
  | none => r
theorem XP_fstX {P : Prog} {d y pc : Nat} {E : Type} (I : E → Prop) (n : Nat) (p : Nat → Bool) (L : Nat → E → List Value) (H : Nat → Hp) {X : Option (Out × Hp)} (Z : Nat → Option (Out × Hp)) (hz : ∀ j, j < n → p j = true → ∀ e, I e → XP P d y pc (L j e) [] (H j) = Z j)
    (hs : ∀ j, j < n → p j = false → ∀ e, I e → ∃ e', I e' ∧ XP P d y pc (L j e) [] (H j) = XP P d y pc (L (j + 1) e') [] (H (j + 1))) (he : ∀ e, I e → XP P d y pc (L n e) [] (H n) = X) :
    ∀ e, I e → XP P d y pc (L 0 e) [] (H 0) = (match fst p n with | some j => Z j | none => X) := by
  have : ∀ m i, i + m = n → ∀ e, I e → XP P d y pc (L i e) [] (H i) = (match fnd p m i with | some j => Z j | none => X) := by
    intro m
    induction m with
    | zero => intro i h e q; rw [Nat.add_zero] at h; subst h; exact he e q
    | succ m ih =>
      intro i h e q
      unfold fnd
      by_cases hp : p i = true
      · rw [if_pos hp]; exact hz i (by omega) hp e q
      · rw [if_neg hp]
        obtain ⟨e', q', z⟩ := hs i (by omega) (by simpa using hp) e q
        rw [z]; exact ih (i + 1) (by omega) e' q'
  exact this n 0 (by omega)
theorem s_takesNext {K A n : Nat} (hb : gB G ≤ o) (hK : u.1 0 1 = nI K) (hK5 : K ≤ 5) (hn : rqs (u.1 4) n) : XP PP (d + 5) 173 0 [.ref o, UV, UV, UV] [] (mst G o u) = some (.inl (none), mst G o (uR u 4 (nxF (u.1 4) K n))) := by
  have hr := hn
  obtain ⟨hn, h9, hq⟩ := hn
  have hl : XP PP (d + 5) 173 2 [.ref o, .int 0, UV, UV] [] (mst G o u) = some (.inl none, mst G o (uR u 4 (nxF (u.1 4) K n))) := by
    refine (XP_fstX (fun e : Value × Value => c1 e.1 = true) K (nxB (u.1 4) n) (fun p e => [.ref o, .int (nI p), e.1, e.2]) (fun _ => mst G o u) (X := some (.inl none, mst G o u)) (fun p => some (.inl none, mst G o (uR u 4 (match fst (lnB (u.1 4) n (u.1 4 (10 + p)) 0) n with | some i => va_up (u.1 4) 8 (u.1 4 (118 + 6 * i)) | none => u.1 4)))) ?_ ?_ ?_ (UV, UV) rfl).trans ?_
    · intro p hp hx e he
      have e1 : ¬ nI K ≤ nI p := nI_ge hp (by omega)
      have i3 : inb (nI (10 + p)) 718 = true := inb_nI (by omega) (by omega)
      have i4 : (nI (10 + p)).toNatClampNeg = 10 + p := nI_clamp (by omega)
      unfold nxB at hx
      rw [Bool.and_eq_true, Bool.not_eq_true'] at hx
      obtain ⟨x1, x2⟩ := hx
      have sl := s_inLine0 (d := d) (o := o) (G := G) (k := u.1 4 (10 + p)) hr
      cases hf : fst (lnB (u.1 4) n (u.1 4 (10 + p)) 0) n with
      | none => rw [hf] at x2; cases x2
      | some i =>
        rw [hf] at sl
        have hi := (fst_spec hf).1
        have i6 : (nI i = -1) = False := m1_nI (by omega)
        refine Eq.trans (by first | exact x173_2 | exact x173_2 (rf_ref _) | exact x173_2 rfl) ?_
        simp [x173_0, x173_1, x173_3, x173_4, x173_7, x173_10, x173_11, x173_14, x173_16, x173_17, x173_18, x173_19, x173_20, x173_21, x173_24, x173_25, x173_26, x173_27, x173_30, x173_33, x173_34, x173_37, x173_38, x173_39, x173_40, x173_43, x173_44, x173_45, x173_46, x173_49, x173_52, x173_53, x173_56, x173_58, x173_59, x173_60, x173_61, x173_64, x173_65, x173_66, x173_69, x173_72, rf_ref, c1_int, c1_ref, c1_UV, mst_T0, mst_I0, mst_R0, mst_J0, mst_T, mst_N, mst_I, mst_J, mst_B, mst_sI, mst_sI0, mst_sJ, mst_sJ0, uR_s, uR_o, uR_2, uR_uR, uL_s, uL_o, uL_1, up_s, up_o, mT, mN, mR, va_rf_some, litA, litB, litM, nI_add, okZ_0, okZ_1, okZ_zb, zb_0, gB_add, inb_lit, cl_lit, Nat.lt_irrefl, ↓reduceIte, if_true, if_false, RP_v, RP_n, hK, e1, i3, i4, he, s_has, x1, zb, sl, oI, i6, s_of0, s_of1, s_of2, s_of3, s_of4, s_of5, (show i < 40 by omega), hb]
    · intro p hp hx e he
      have e1 : ¬ nI K ≤ nI p := nI_ge hp (by omega)
      have i3 : inb (nI (10 + p)) 718 = true := inb_nI (by omega) (by omega)
      have i4 : (nI (10 + p)).toNatClampNeg = 10 + p := nI_clamp (by omega)
      refine ⟨(.int (u.1 4 (10 + p)), .int (-1)), rfl, ?_⟩
      unfold nxB at hx
      rw [Bool.and_eq_false_iff, Bool.not_eq_false'] at hx
      by_cases x1 : hasB (u.1 4 4) (u.1 4 (10 + p)) = true
      · refine Eq.trans (by first | exact x173_2 | exact x173_2 (rf_ref _) | exact x173_2 rfl) ?_
        simp [x173_0, x173_1, x173_3, x173_4, x173_7, x173_10, x173_11, x173_14, x173_16, x173_17, x173_18, x173_19, x173_20, x173_21, x173_24, x173_25, x173_26, x173_27, x173_30, x173_33, x173_34, x173_37, x173_38, x173_39, x173_40, x173_43, x173_44, x173_45, x173_46, x173_49, x173_52, x173_53, x173_56, x173_58, x173_59, x173_60, x173_61, x173_64, x173_65, x173_66, x173_69, x173_72, rf_ref, c1_int, c1_ref, c1_UV, mst_T0, mst_I0, mst_R0, mst_J0, mst_T, mst_N, mst_I, mst_J, mst_B, mst_sI, mst_sI0, mst_sJ, mst_sJ0, uR_s, uR_o, uR_2, uR_uR, uL_s, uL_o, uL_1, up_s, up_o, mT, mN, mR, va_rf_some, litA, litB, litM, nI_add, okZ_0, okZ_1, okZ_zb, zb_0, gB_add, inb_lit, cl_lit, Nat.lt_irrefl, ↓reduceIte, if_true, if_false, RP_v, RP_n, hK, e1, i3, i4, he, s_has, x1, zb, nI_1]
      · have x2 := hx.resolve_left x1
        have sl := s_inLine0 (d := d) (o := o) (G := G) (k := u.1 4 (10 + p)) hr
        cases hf : fst (lnB (u.1 4) n (u.1 4 (10 + p)) 0) n with
        | some i => rw [hf] at x2; cases x2
        | none =>
          rw [hf] at sl
          refine Eq.trans (by first | exact x173_2 | exact x173_2 (rf_ref _) | exact x173_2 rfl) ?_
          simp [x173_0, x173_1, x173_3, x173_4, x173_7, x173_10, x173_11, x173_14, x173_16, x173_17, x173_18, x173_19, x173_20, x173_21, x173_24, x173_25, x173_26, x173_27, x173_30, x173_33, x173_34, x173_37, x173_38, x173_39, x173_40, x173_43, x173_44, x173_45, x173_46, x173_49, x173_52, x173_53, x173_56, x173_58, x173_59, x173_60, x173_61, x173_64, x173_65, x173_66, x173_69, x173_72, rf_ref, c1_int, c1_ref, c1_UV, mst_T0, mst_I0, mst_R0, mst_J0, mst_T, mst_N, mst_I, mst_J, mst_B, mst_sI, mst_sI0, mst_sJ, mst_sJ0, uR_s, uR_o, uR_2, uR_uR, uL_s, uL_o, uL_1, up_s, up_o, mT, mN, mR, va_rf_some, litA, litB, litM, nI_add, okZ_0, okZ_1, okZ_zb, zb_0, gB_add, inb_lit, cl_lit, Nat.lt_irrefl, ↓reduceIte, if_true, if_false, RP_v, RP_n, hK, e1, i3, i4, he, s_has, x1, zb, sl, oI, nI_1]
    · intro e he
      refine Eq.trans (by first | exact x173_2 | exact x173_2 (rf_ref _) | exact x173_2 rfl) ?_
      simp [x173_0, x173_1, x173_3, x173_4, x173_7, x173_10, x173_11, x173_14, x173_16, x173_17, x173_18, x173_19, x173_20, x173_21, x173_24, x173_25, x173_26, x173_27, x173_30, x173_33, x173_34, x173_37, x173_38, x173_39, x173_40, x173_43, x173_44, x173_45, x173_46, x173_49, x173_52, x173_53, x173_56, x173_58, x173_59, x173_60, x173_61, x173_64, x173_65, x173_66, x173_69, x173_72, rf_ref, c1_int, c1_ref, c1_UV, mst_T0, mst_I0, mst_R0, mst_J0, mst_T, mst_N, mst_I, mst_J, mst_B, mst_sI, mst_sI0, mst_sJ, mst_sJ0, uR_s, uR_o, uR_2, uR_uR, uL_s, uL_o, uL_1, up_s, up_o, mT, mN, mR, va_rf_some, litA, litB, litM, nI_add, okZ_0, okZ_1, okZ_zb, zb_0, gB_add, inb_lit, cl_lit, Nat.lt_irrefl, ↓reduceIte, if_true, if_false, RP_v, RP_n, hK]
    · unfold nxF
      cases fst (nxB (u.1 4) n) K with
      | none => dsimp only; rw [uR_id]
      | some p => rfl
  simp [x173_0, x173_1, rf_ref, c1_int, c1_ref, c1_UV, mst_T0, mst_I0, mst_R0, mst_J0, mst_T, mst_N, mst_I, mst_J, mst_B, mst_sI, mst_sI0, mst_sJ, mst_sJ0, uR_s, uR_o, uR_2, uR_uR, uL_s, uL_o, uL_1, up_s, up_o, mT, mN, mR, va_rf_some, litA, litB, litM, nI_add, okZ_0, okZ_1, okZ_zb, zb_0, gB_add, inb_lit, cl_lit, Nat.lt_irrefl, ↓reduceIte, if_true, if_false, RP_v, RP_n, hl]
end

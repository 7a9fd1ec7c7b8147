/-! the component: the first of a line, its loop; PLAIN LAW: it's the twin's -/
theorem ftF_lt {r : Rw} {ix : Nat → Nat} {kd : Int32} : ∀ m j, ftF r ix kd m = some j → j < m := by
  intro m
  induction m with
  | zero => intro j h; cases h
  | succ m ih =>
    intro j h
    unfold ftF at h
    split at h
    · cases h; exact Nat.lt_succ_self _
    · exact Nat.lt_succ_of_lt (ih j h)
def frV (G : Hp) (e : Nat) (q : Option Nat) : Value := match q with
  | none => .null
  | some k => va_rf (gR G e k)
def flV (r : Rw) (t : Int32) (ix : Nat → Nat) (q : Option Nat) : Int32 := match q with
  | none => 0
  | some k => vlF r t (ix k)
section
variable {d b m : Nat} {G : Hp} {s : Bs} {c w r : Rw} {K A : Nat} {ix : Nat → Nat}
set_option maxHeartbeats 4000000
set_option maxRecDepth 20000
theorem s_first {k : Nat} (hb : gB G ≤ b) (hL : CLM G) (hK : K ≤ 5) (hA : A ≤ 8) (hI : BIr s r K A) (hk : k < K) (hm : Rm r K) (h : BX G b s r m ix) (hq : ∀ j, j < m → vp_in (r (118 + 6 * ix j + 1)) A) :
    XP PP (d + 3) 128 0 [.ref b, .int (nI k), UV, UV, UV, UV, UV, UV] [] (bst G b s) = some (.inl (some (frV G s.2.2.2.2 (ftF r ix (nI k) m))), bst G b s) := by
  have hAL := h.AL
  obtain ⟨h1, h2, h3, h4, h5, h6, h7⟩ := h
  have ss := fun d => s_alSize (d := d) hAL
  obtain ⟨t, ht, et⟩ := vp_in_of (hm k hk) (by omega)
  have e9 : s.1 9 k = nI t := by
    rw [← et]
    refine hI 9 k _ ?_
    unfold pos
    rw [if_neg (by omega), if_neg (by omega), if_neg (by omega), if_neg (by omega), if_pos rfl, if_pos hk]
  have hck : cl (nI k) = k := nI_clamp (by omega)
  have hp1 : ∀ a, a < 8 → s.1 1 a = r (20 + a) := fun a ha => hI 1 a _ (by unfold pos; rw [if_neg (by omega), if_pos (by omega), if_pos ha])
  have hp2 : ∀ a, a < 8 → s.1 2 a = r (28 + a) := fun a ha => hI 2 a _ (by unfold pos; rw [if_neg (by omega), if_pos (by omega), if_pos ha])
  obtain ⟨lam, hlam⟩ : ∃ lam, lam = lmA G b t := ⟨_, rfl⟩
  have hbr : bR (gA G) b s 14 t = some lam := by
    rw [hlam]
    rcases (by omega : t = 0 ∨ t = 1 ∨ t = 2 ∨ t = 3) with e | e | e | e <;> subst e <;> rfl
  have j1 : inb (nI k) 5 = true := inb_nI (by omega) (by omega)
  have j2 : (nI k).toNatClampNeg = k := nI_clamp (by omega)
  have j3 : inb (nI t) 4 = true := inb_nI (by omega) (by omega)
  have j4 : (nI t).toNatClampNeg = t := nI_clamp (by omega)
  have hl : ∀ e : Value × Value, c1 e.1 = true → c1 e.2 = true → XP PP (d + 3) 128 20 [.ref b, .int (nI k), .ref lam, frV G s.2.2.2.2 (ftF r ix (nI k) 0), .int (flV r (nI t) ix (ftF r ix (nI k) 0)), .int (nI 0), e.1, e.2] [] (bst G b s) = some (.inl (some (frV G s.2.2.2.2 (ftF r ix (nI k) m))), bst G b s) := by
    intro e he1 he2
    refine XP_forX m (fun e : Value × Value => c1 e.1 = true ∧ c1 e.2 = true) (fun j e => [.ref b, .int (nI k), .ref lam, frV G s.2.2.2.2 (ftF r ix (nI k) j), .int (flV r (nI t) ix (ftF r ix (nI k) j)), .int (nI j), e.1, e.2]) (fun _ => bst G b s) ?_ ?_ 0 (Nat.zero_le _) e ⟨he1, he2⟩
    · intro j hj e he
      obtain ⟨q, w1, w2, w3⟩ := h7 j hj
      obtain ⟨a, ha, ea⟩ := vp_in_of (hq j hj) (by omega)
      have e1 : ¬ nI m ≤ nI j := nI_ge hj (by omega)
      have sg := fun d => s_alGet (d := d) hAL hj (by rw [bst_Nr h2]; exact h4)
      rw [bst_Rr h2, w1] at sg
      have sM := fun d v0 v1 v2 v3 v4 v5 v6 v7 => s_meaT (d := d) (v0 := v0) (v1 := v1) (v2 := v2) (v3 := v3) (v4 := v4) (v5 := v5) (v6 := v6) (v7 := v7) (s := s) hb hL ht w2 w3 ea (by omega) (hp1 a (by omega)) (hp2 a (by omega))
      rw [← hlam] at sM
      have hfr : ∀ q', ftF r ix (nI k) j = q' → rf (frV G s.2.2.2.2 q') = true := fun q' _ => by
        cases q' with
        | none => rfl
        | some z => exact rf_va _
      by_cases q1 : r (118 + 6 * ix j + 2) = nI k
      · cases hf : ftF r ix (nI k) j with
        | none =>
          have hn : ftF r ix (nI k) (j + 1) = some j := by
            unfold ftF
            rw [hf, if_pos ⟨q1, rfl⟩]
          refine ⟨(.ref q, .int (vlF r (nI t) (ix j))), ⟨rfl, rfl⟩, ?_⟩
          rw [hn]
          refine Eq.trans (by first | exact x128_20 | exact x128_20 (rf_ref _) | exact x128_20 rfl) ?_
          simp [x128_0, x128_1, x128_4, x128_5, x128_8, x128_9, x128_10, x128_11, x128_12, x128_13, x128_14, x128_15, x128_17, x128_18, x128_22, x128_23, x128_26_13, x128_26_19, x128_31, x128_34, x128_35, x128_38, x128_40_13, x128_40_19, x128_45, x128_45n, x128_48, x128_50, x128_52, x128_55, x128_56, x128_59, x128_62, x128_63, x128_65_27, x128_65_28, x128_65_29, x128_65_30, x128_70, x128_72, x128_73n, x128_73r, x128_76, x128_78, x128_80, x128_83, x128_86, x128_88, x128_89, x128_91, x128_93, x128_96, x128_99, x128_100, bst_T0, bst_T, bst_N, bst_I0, bst_I, bst_R0, bst_R, bst_B, bst_X, bst_S, bst_A, bst_sI, bst_sI0, bst_sC, bst_sY, bst_sE, bI_s, bI_o, bI_2, bI_bI, bC_1, bY_1, bE_1, bT, bN, bR, rf_ref, rf_va, rf_null, c1_int, c1_ref, c1_UV, rvo_n, rvo_r, c1_null, c1_va, up_s, up_o, va_rf_some, va_rf_none, litA, litB, litM, nI_add, okZ_0, okZ_1, okZ_zb, zb_0, gB_add, inb_lit, cl_lit, Nat.lt_irrefl, ↓reduceIte, if_true, if_false, RP_v, RP_n, ss, sg, e1, bst_Tr w2, bst_Ir w2, w3.1, w3.2.2.2.1, q1, sM, frV, flV, w1, he.1, he.2, nI_1]
        | some z =>
          obtain ⟨q3, x1, x2, x3⟩ := h7 z (by have := ftF_lt _ _ hf; omega)
          by_cases q2 : vlF r (nI t) (ix j) < vlF r (nI t) (ix z)
          · have hn : ftF r ix (nI k) (j + 1) = some j := by
              unfold ftF
              rw [hf, if_pos ⟨q1, by unfold ftB; rw [hck, et]; exact decide_eq_true q2⟩]
            refine ⟨(.ref q, .int (vlF r (nI t) (ix j))), ⟨rfl, rfl⟩, ?_⟩
            rw [hn]
            refine Eq.trans (by first | exact x128_20 | exact x128_20 (rf_ref _) | exact x128_20 rfl) ?_
            simp [x128_0, x128_1, x128_4, x128_5, x128_8, x128_9, x128_10, x128_11, x128_12, x128_13, x128_14, x128_15, x128_17, x128_18, x128_22, x128_23, x128_26_13, x128_26_19, x128_31, x128_34, x128_35, x128_38, x128_40_13, x128_40_19, x128_45, x128_45n, x128_48, x128_50, x128_52, x128_55, x128_56, x128_59, x128_62, x128_63, x128_65_27, x128_65_28, x128_65_29, x128_65_30, x128_70, x128_72, x128_73n, x128_73r, x128_76, x128_78, x128_80, x128_83, x128_86, x128_88, x128_89, x128_91, x128_93, x128_96, x128_99, x128_100, bst_T0, bst_T, bst_N, bst_I0, bst_I, bst_R0, bst_R, bst_B, bst_X, bst_S, bst_A, bst_sI, bst_sI0, bst_sC, bst_sY, bst_sE, bI_s, bI_o, bI_2, bI_bI, bC_1, bY_1, bE_1, bT, bN, bR, rf_ref, rf_va, rf_null, c1_int, c1_ref, c1_UV, rvo_n, rvo_r, c1_null, c1_va, up_s, up_o, va_rf_some, va_rf_none, litA, litB, litM, nI_add, okZ_0, okZ_1, okZ_zb, zb_0, gB_add, inb_lit, cl_lit, Nat.lt_irrefl, ↓reduceIte, if_true, if_false, RP_v, RP_n, ss, sg, e1, bst_Tr w2, bst_Ir w2, w3.1, w3.2.2.2.1, q1, sM, frV, flV, w1, x1, q2, he.1, he.2, nI_1]
          · have hn : ftF r ix (nI k) (j + 1) = some z := by
              rw [← hf]
              show (if _ then _ else _) = _
              rw [hf]
              exact if_neg (fun y => q2 (by have := y.2; unfold ftB at this; rw [hck, et] at this; exact of_decide_eq_true this))
            refine ⟨(.ref q, .int (vlF r (nI t) (ix j))), ⟨rfl, rfl⟩, ?_⟩
            rw [hn]
            refine Eq.trans (by first | exact x128_20 | exact x128_20 (rf_ref _) | exact x128_20 rfl) ?_
            simp [x128_0, x128_1, x128_4, x128_5, x128_8, x128_9, x128_10, x128_11, x128_12, x128_13, x128_14, x128_15, x128_17, x128_18, x128_22, x128_23, x128_26_13, x128_26_19, x128_31, x128_34, x128_35, x128_38, x128_40_13, x128_40_19, x128_45, x128_45n, x128_48, x128_50, x128_52, x128_55, x128_56, x128_59, x128_62, x128_63, x128_65_27, x128_65_28, x128_65_29, x128_65_30, x128_70, x128_72, x128_73n, x128_73r, x128_76, x128_78, x128_80, x128_83, x128_86, x128_88, x128_89, x128_91, x128_93, x128_96, x128_99, x128_100, bst_T0, bst_T, bst_N, bst_I0, bst_I, bst_R0, bst_R, bst_B, bst_X, bst_S, bst_A, bst_sI, bst_sI0, bst_sC, bst_sY, bst_sE, bI_s, bI_o, bI_2, bI_bI, bC_1, bY_1, bE_1, bT, bN, bR, rf_ref, rf_va, rf_null, c1_int, c1_ref, c1_UV, rvo_n, rvo_r, c1_null, c1_va, up_s, up_o, va_rf_some, va_rf_none, litA, litB, litM, nI_add, okZ_0, okZ_1, okZ_zb, zb_0, gB_add, inb_lit, cl_lit, Nat.lt_irrefl, ↓reduceIte, if_true, if_false, RP_v, RP_n, ss, sg, e1, bst_Tr w2, bst_Ir w2, w3.1, w3.2.2.2.1, q1, sM, frV, flV, w1, x1, q2, he.1, he.2, nI_1]
      · have hn : ftF r ix (nI k) (j + 1) = ftF r ix (nI k) j := by
          show (if _ then _ else _) = _
          exact if_neg (fun y => q1 y.1)
        refine ⟨(.ref q, e.2), ⟨rfl, he.2⟩, ?_⟩
        rw [hn]
        obtain ⟨fr, hfr'⟩ : ∃ fr, fr = frV G s.2.2.2.2 (ftF r ix (nI k) j) := ⟨_, rfl⟩
        rw [← hfr']
        refine Eq.trans (by first | exact x128_20 | exact x128_20 (rf_ref _) | exact x128_20 rfl) ?_
        simp [x128_0, x128_1, x128_4, x128_5, x128_8, x128_9, x128_10, x128_11, x128_12, x128_13, x128_14, x128_15, x128_17, x128_18, x128_22, x128_23, x128_26_13, x128_26_19, x128_31, x128_34, x128_35, x128_38, x128_40_13, x128_40_19, x128_45, x128_45n, x128_48, x128_50, x128_52, x128_55, x128_56, x128_59, x128_62, x128_63, x128_65_27, x128_65_28, x128_65_29, x128_65_30, x128_70, x128_72, x128_73n, x128_73r, x128_76, x128_78, x128_80, x128_83, x128_86, x128_88, x128_89, x128_91, x128_93, x128_96, x128_99, x128_100, bst_T0, bst_T, bst_N, bst_I0, bst_I, bst_R0, bst_R, bst_B, bst_X, bst_S, bst_A, bst_sI, bst_sI0, bst_sC, bst_sY, bst_sE, bI_s, bI_o, bI_2, bI_bI, bC_1, bY_1, bE_1, bT, bN, bR, rf_ref, rf_va, rf_null, c1_int, c1_ref, c1_UV, rvo_n, rvo_r, c1_null, c1_va, up_s, up_o, va_rf_some, va_rf_none, litA, litB, litM, nI_add, okZ_0, okZ_1, okZ_zb, zb_0, gB_add, inb_lit, cl_lit, Nat.lt_irrefl, ↓reduceIte, if_true, if_false, RP_v, RP_n, ss, sg, e1, bst_Tr w2, bst_Ir w2, w3.1, w3.2.2.2.1, q1, he.1, he.2, nI_1]
    · intro e he
      obtain ⟨fr, hfr'⟩ : ∃ fr, fr = frV G s.2.2.2.2 (ftF r ix (nI k) m) := ⟨_, rfl⟩
      have hfr : rf fr = true := by
        rw [hfr']
        cases hf : ftF r ix (nI k) m with
        | none => rfl
        | some z => exact rf_va _
      rw [← hfr']
      refine Eq.trans (by first | exact x128_20 | exact x128_20 (rf_ref _) | exact x128_20 rfl) ?_
      simp [x128_0, x128_1, x128_4, x128_5, x128_8, x128_9, x128_10, x128_11, x128_12, x128_13, x128_14, x128_15, x128_17, x128_18, x128_22, x128_23, x128_26_13, x128_26_19, x128_31, x128_34, x128_35, x128_38, x128_40_13, x128_40_19, x128_45, x128_45n, x128_48, x128_50, x128_52, x128_55, x128_56, x128_59, x128_62, x128_63, x128_65_27, x128_65_28, x128_65_29, x128_65_30, x128_70, x128_72, x128_73n, x128_73r, x128_76, x128_78, x128_80, x128_83, x128_86, x128_88, x128_89, x128_91, x128_93, x128_96, x128_99, x128_100, bst_T0, bst_T, bst_N, bst_I0, bst_I, bst_R0, bst_R, bst_B, bst_X, bst_S, bst_A, bst_sI, bst_sI0, bst_sC, bst_sY, bst_sE, bI_s, bI_o, bI_2, bI_bI, bC_1, bY_1, bE_1, bT, bN, bR, rf_ref, rf_va, rf_null, c1_int, c1_ref, c1_UV, rvo_n, rvo_r, c1_null, c1_va, up_s, up_o, va_rf_some, va_rf_none, litA, litB, litM, nI_add, okZ_0, okZ_1, okZ_zb, zb_0, gB_add, inb_lit, cl_lit, Nat.lt_irrefl, ↓reduceIte, if_true, if_false, RP_v, RP_n, ss, hfr]
  have hl' := hl (UV, UV) rfl rfl
  have e0 : frV G s.2.2.2.2 (ftF r ix (nI k) 0) = .null := rfl
  have e1 : flV r (nI t) ix (ftF r ix (nI k) 0) = 0 := rfl
  rw [e0, e1] at hl'
  have e2 : nI 0 = 0 := rfl
  rw [e2] at hl'
  rcases (by omega : t = 0 ∨ t = 1 ∨ t = 2 ∨ t = 3) with e | e | e | e <;> subst e <;> simp [lmA] at hlam <;> subst hlam <;> simp [x128_0, x128_1, x128_4, x128_5, x128_8, x128_9, x128_10, x128_11, x128_12, x128_13, x128_14, x128_15, x128_17, x128_18, bst_T0, bst_T, bst_N, bst_I0, bst_I, bst_R0, bst_R, bst_B, bst_X, bst_S, bst_A, bst_sI, bst_sI0, bst_sC, bst_sY, bst_sE, bI_s, bI_o, bI_2, bI_bI, bC_1, bY_1, bE_1, bT, bN, bR, rf_ref, rf_va, rf_null, c1_int, c1_ref, c1_UV, rvo_n, rvo_r, c1_null, c1_va, up_s, up_o, va_rf_some, va_rf_none, litA, litB, litM, nI_add, okZ_0, okZ_1, okZ_zb, zb_0, gB_add, inb_lit, cl_lit, Nat.lt_irrefl, ↓reduceIte, if_true, if_false, RP_v, RP_n, e9, j1, j2, j3, j4, hl']
end

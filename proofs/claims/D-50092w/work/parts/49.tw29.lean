/-! the twin: differences -/
section
variable {d o : Nat} {G : Hp} {u : Mu}
set_option maxHeartbeats 4000000
set_option maxRecDepth 20000
def dfB (S T : Rw) (p q : Nat) : Bool := decide (plc T (S q) < plc T (S p))
theorem s_diff2 {t1 t2 : Int32} {S T : Rw} {K : Nat} (h1 : u.1 0 1 = nI K) (hK : K ≤ 5) (hs : u.1 11 = S) (ht : u.1 10 = T) (hon : ∀ p, p < K → ∃ q, q < 5 ∧ T q = S p) {v3 : Value} :
    XP PP (d + 7) 227 71 [.ref o, .int t1, .int t2, .int 0, .int 0, UV] [] (mst G o u) = some (.inl (some (.int (nI (prS (dfB S T) K K)))), mst G o u) := by
  have hpl : ∀ k, (∃ q, q < 5 ∧ T q = k) → ∀ d, XP PP d 228 0 [.ref o, .int k, UV] [] (mst G o u) = some (.inl (some (.int (nI (plc T k)))), mst G o u) := fun k hk d => by
    have := s_placeInOutcome (d := d) (G := G) (o := o) (u := u) (k := k) (by rw [ht]; exact hk)
    rwa [ht] at this
  have hin : ∀ p, p < K → ∀ n0, XP PP (d + 7) 227 86 [.ref o, .int t1, .int t2, .int (nI n0), .int (nI p), .int (nI (p + 1))] [] (mst G o u) = XP PP (d + 7) 227 71 [.ref o, .int t1, .int t2, .int (nI (n0 + cnt (fun j => dfB S T p (p + 1 + j)) (K - 1 - p))), .int (nI (p + 1)), .int (nI K)] [] (mst G o u) := by
    intro p hp n0
    refine XP_for (K - 1 - p) (fun j => [.ref o, .int t1, .int t2, .int (nI (n0 + cnt (fun j => dfB S T p (p + 1 + j)) j)), .int (nI p), .int (nI (p + 1 + j))]) (fun _ => mst G o u) ?_ ?_ 0 (Nat.zero_le _)
    · intro j hj
      have e1 : ¬ nI K ≤ nI (p + 1 + j) := nI_ge (by omega) (by omega)
      have i1 : inb (nI p) 5 = true := inb_nI (by omega) (by omega)
      have i2 : (nI p).toNatClampNeg = p := nI_clamp (by omega)
      have i3 : inb (nI (p + 1 + j)) 5 = true := inb_nI (by omega) (by omega)
      have i4 : (nI (p + 1 + j)).toNatClampNeg = p + 1 + j := nI_clamp (by omega)
      have s1 := hpl (S p) (hon p hp)
      have s2 := hpl (S (p + 1 + j)) (hon _ (by omega))
      have z1 := (plc_spec (hon p hp)).1
      have z2 := (plc_spec (hon (p + 1 + j) (by omega))).1
      have e5 : (nI (plc T (S p)) ≤ nI (plc T (S (p + 1 + j)))) = _ := nI_leN (by omega) (by omega)
      refine Eq.trans (by first | exact x227_86 | exact x227_86 (rf_ref _) | exact x227_86 rfl) ?_
      by_cases q : plc T (S (p + 1 + j)) < plc T (S p)
      · simp [x227_0, x227_1, x227_2, x227_5, x227_8, x227_9, x227_12, x227_15, x227_16, x227_19, x227_20, x227_23, x227_26, x227_27, x227_28, x227_29, x227_30, x227_33, x227_34, x227_36, x227_37, x227_40, x227_43, x227_44, x227_47, x227_48, x227_49, x227_52, x227_53, x227_54, x227_55, x227_58, x227_61, x227_62, x227_63, x227_66, x227_67, x227_68, x227_69, x227_73, x227_74, x227_77, x227_80, x227_82, x227_83, x227_84, x227_88, x227_89, x227_92, x227_95, x227_96, x227_97, x227_100, x227_102, x227_103, x227_106, x227_107, x227_108, x227_111, x227_113, x227_114, x227_117, x227_120, x227_121, x227_122, x227_123, x227_124, x227_127, x227_130, x227_133, x227_136, x227_137, rf_ref, c1_int, c1_ref, c1_UV, mst_T0, mst_I0, mst_R0, mst_J0, mst_T, mst_N, mst_I, mst_J, mst_B, mst_sI, mst_sI0, mst_sJ, mst_sJ0, uR_s, uR_o, uR_2, uR_uR, uL_s, uL_o, uL_1, up_s, up_o, mT, mN, mR, va_rf_some, litA, litB, litM, nI_add, okZ_0, okZ_1, okZ_zb, zb_0, gB_add, inb_lit, cl_lit, Nat.lt_irrefl, ↓reduceIte, if_true, if_false, RP_v, RP_n, h1, hs, e1, i1, i2, i3, i4, s1, s2, e5, q, Nat.not_le.mpr q, cnt, dfB, nI_1]
        rfl
      · simp [x227_0, x227_1, x227_2, x227_5, x227_8, x227_9, x227_12, x227_15, x227_16, x227_19, x227_20, x227_23, x227_26, x227_27, x227_28, x227_29, x227_30, x227_33, x227_34, x227_36, x227_37, x227_40, x227_43, x227_44, x227_47, x227_48, x227_49, x227_52, x227_53, x227_54, x227_55, x227_58, x227_61, x227_62, x227_63, x227_66, x227_67, x227_68, x227_69, x227_73, x227_74, x227_77, x227_80, x227_82, x227_83, x227_84, x227_88, x227_89, x227_92, x227_95, x227_96, x227_97, x227_100, x227_102, x227_103, x227_106, x227_107, x227_108, x227_111, x227_113, x227_114, x227_117, x227_120, x227_121, x227_122, x227_123, x227_124, x227_127, x227_130, x227_133, x227_136, x227_137, rf_ref, c1_int, c1_ref, c1_UV, mst_T0, mst_I0, mst_R0, mst_J0, mst_T, mst_N, mst_I, mst_J, mst_B, mst_sI, mst_sI0, mst_sJ, mst_sJ0, uR_s, uR_o, uR_2, uR_uR, uL_s, uL_o, uL_1, up_s, up_o, mT, mN, mR, va_rf_some, litA, litB, litM, nI_add, okZ_0, okZ_1, okZ_zb, zb_0, gB_add, inb_lit, cl_lit, Nat.lt_irrefl, ↓reduceIte, if_true, if_false, RP_v, RP_n, h1, hs, e1, i1, i2, i3, i4, s1, s2, e5, q, Nat.not_lt.mp q, cnt, dfB, nI_1]
        rfl
    · have e2 : p + 1 + (K - 1 - p) = K := by omega
      refine Eq.trans (by first | exact x227_86 | exact x227_86 (rf_ref _) | exact x227_86 rfl) ?_
      simp [x227_0, x227_1, x227_2, x227_5, x227_8, x227_9, x227_12, x227_15, x227_16, x227_19, x227_20, x227_23, x227_26, x227_27, x227_28, x227_29, x227_30, x227_33, x227_34, x227_36, x227_37, x227_40, x227_43, x227_44, x227_47, x227_48, x227_49, x227_52, x227_53, x227_54, x227_55, x227_58, x227_61, x227_62, x227_63, x227_66, x227_67, x227_68, x227_69, x227_73, x227_74, x227_77, x227_80, x227_82, x227_83, x227_84, x227_88, x227_89, x227_92, x227_95, x227_96, x227_97, x227_100, x227_102, x227_103, x227_106, x227_107, x227_108, x227_111, x227_113, x227_114, x227_117, x227_120, x227_121, x227_122, x227_123, x227_124, x227_127, x227_130, x227_133, x227_136, x227_137, rf_ref, c1_int, c1_ref, c1_UV, mst_T0, mst_I0, mst_R0, mst_J0, mst_T, mst_N, mst_I, mst_J, mst_B, mst_sI, mst_sI0, mst_sJ, mst_sJ0, uR_s, uR_o, uR_2, uR_uR, uL_s, uL_o, uL_1, up_s, up_o, mT, mN, mR, va_rf_some, litA, litB, litM, nI_add, okZ_0, okZ_1, okZ_zb, zb_0, gB_add, inb_lit, cl_lit, Nat.lt_irrefl, ↓reduceIte, if_true, if_false, RP_v, RP_n, h1, e2, nI_1]
  refine XP_forX K (fun _ : Value => True) (fun p e => [.ref o, .int t1, .int t2, .int (nI (prS (dfB S T) K p)), .int (nI p), e]) (fun _ => mst G o u) ?_ ?_ 0 (Nat.zero_le _) UV trivial
  · intro p hp e _
    have e1 : ¬ nI K ≤ nI p := nI_ge hp (by omega)
    refine ⟨.int (nI K), trivial, ?_⟩
    refine Eq.trans (by first | exact x227_71 | exact x227_71 (rf_ref _) | exact x227_71 rfl) ?_
    simp [x227_0, x227_1, x227_2, x227_5, x227_8, x227_9, x227_12, x227_15, x227_16, x227_19, x227_20, x227_23, x227_26, x227_27, x227_28, x227_29, x227_30, x227_33, x227_34, x227_36, x227_37, x227_40, x227_43, x227_44, x227_47, x227_48, x227_49, x227_52, x227_53, x227_54, x227_55, x227_58, x227_61, x227_62, x227_63, x227_66, x227_67, x227_68, x227_69, x227_73, x227_74, x227_77, x227_80, x227_82, x227_83, x227_84, x227_88, x227_89, x227_92, x227_95, x227_96, x227_97, x227_100, x227_102, x227_103, x227_106, x227_107, x227_108, x227_111, x227_113, x227_114, x227_117, x227_120, x227_121, x227_122, x227_123, x227_124, x227_127, x227_130, x227_133, x227_136, x227_137, rf_ref, c1_int, c1_ref, c1_UV, mst_T0, mst_I0, mst_R0, mst_J0, mst_T, mst_N, mst_I, mst_J, mst_B, mst_sI, mst_sI0, mst_sJ, mst_sJ0, uR_s, uR_o, uR_2, uR_uR, uL_s, uL_o, uL_1, up_s, up_o, mT, mN, mR, va_rf_some, litA, litB, litM, nI_add, okZ_0, okZ_1, okZ_zb, zb_0, gB_add, inb_lit, cl_lit, Nat.lt_irrefl, ↓reduceIte, if_true, if_false, RP_v, RP_n, h1, e1, nI_1, hin p hp, prS]
  · intro e _
    refine Eq.trans (by first | exact x227_71 | exact x227_71 (rf_ref _) | exact x227_71 rfl) ?_
    simp [x227_0, x227_1, x227_2, x227_5, x227_8, x227_9, x227_12, x227_15, x227_16, x227_19, x227_20, x227_23, x227_26, x227_27, x227_28, x227_29, x227_30, x227_33, x227_34, x227_36, x227_37, x227_40, x227_43, x227_44, x227_47, x227_48, x227_49, x227_52, x227_53, x227_54, x227_55, x227_58, x227_61, x227_62, x227_63, x227_66, x227_67, x227_68, x227_69, x227_73, x227_74, x227_77, x227_80, x227_82, x227_83, x227_84, x227_88, x227_89, x227_92, x227_95, x227_96, x227_97, x227_100, x227_102, x227_103, x227_106, x227_107, x227_108, x227_111, x227_113, x227_114, x227_117, x227_120, x227_121, x227_122, x227_123, x227_124, x227_127, x227_130, x227_133, x227_136, x227_137, rf_ref, c1_int, c1_ref, c1_UV, mst_T0, mst_I0, mst_R0, mst_J0, mst_T, mst_N, mst_I, mst_J, mst_B, mst_sI, mst_sI0, mst_sJ, mst_sJ0, uR_s, uR_o, uR_2, uR_uR, uL_s, uL_o, uL_1, up_s, up_o, mT, mN, mR, va_rf_some, litA, litB, litM, nI_add, okZ_0, okZ_1, okZ_zb, zb_0, gB_add, inb_lit, cl_lit, Nat.lt_irrefl, ↓reduceIte, if_true, if_false, RP_v, RP_n, h1]
theorem s_differences0 {t t' : Int32} (hb : gB G ≤ o) (h : (irB t 0 2 && irB t' 0 2) = false) : XP PP (d + 7) 227 0 [.ref o, .int t, .int t', UV, UV, UV] [] (mst G o u) = some (.inl (some (.int 0)), mst G o (uT u 1)) := by
  by_cases q : irB t 0 2 = true
  · rw [q, Bool.true_and] at h
    simp [x227_0, x227_1, x227_2, x227_5, x227_8, x227_9, x227_12, x227_15, x227_16, x227_19, x227_20, x227_23, x227_26, x227_27, x227_28, x227_29, x227_30, x227_33, x227_34, x227_35, x227_36, x227_37, x227_40, x227_43, x227_44, x227_47, x227_48, x227_49, x227_52, x227_53, x227_54, x227_55, x227_58, x227_61, x227_62, x227_63, x227_66, x227_67, x227_68, x227_69, x227_71, x227_73, x227_74, x227_77, x227_80, x227_82, x227_83, x227_84, x227_86, x227_88, x227_89, x227_92, x227_95, x227_96, x227_97, x227_100, x227_102, x227_103, x227_106, x227_107, x227_108, x227_111, x227_113, x227_114, x227_117, x227_120, x227_121, x227_122, x227_123, x227_124, x227_127, x227_130, x227_133, x227_136, x227_137, rf_ref, c1_int, c1_ref, c1_UV, mst_T0, mst_I0, mst_R0, mst_J0, mst_T, mst_N, mst_I, mst_J, mst_B, mst_sI, mst_sI0, mst_sJ, mst_sJ0, uR_s, uR_o, uR_2, uR_uR, uL_s, uL_o, uL_1, up_s, up_o, mT, mN, mR, va_rf_some, litA, litB, litM, nI_add, okZ_0, okZ_1, okZ_zb, zb_0, gB_add, inb_lit, cl_lit, Nat.lt_irrefl, ↓reduceIte, if_true, if_false, RP_v, RP_n, s_is1, s_is0, s_may1, s_may0, uT_0, uT_o, uT_2, uT_T, s_isAsker', s_isClass', s_isIn9, s_isIn5, s_isIn4, s_isIn59, s_isIn3, s_isIn20, s_isTally', s_areTicks', q, h, zb_true, zb_false, hb]
  · simp [x227_0, x227_1, x227_2, x227_5, x227_8, x227_9, x227_12, x227_15, x227_16, x227_19, x227_20, x227_23, x227_26, x227_27, x227_28, x227_29, x227_30, x227_33, x227_34, x227_35, x227_36, x227_37, x227_40, x227_43, x227_44, x227_47, x227_48, x227_49, x227_52, x227_53, x227_54, x227_55, x227_58, x227_61, x227_62, x227_63, x227_66, x227_67, x227_68, x227_69, x227_71, x227_73, x227_74, x227_77, x227_80, x227_82, x227_83, x227_84, x227_86, x227_88, x227_89, x227_92, x227_95, x227_96, x227_97, x227_100, x227_102, x227_103, x227_106, x227_107, x227_108, x227_111, x227_113, x227_114, x227_117, x227_120, x227_121, x227_122, x227_123, x227_124, x227_127, x227_130, x227_133, x227_136, x227_137, rf_ref, c1_int, c1_ref, c1_UV, mst_T0, mst_I0, mst_R0, mst_J0, mst_T, mst_N, mst_I, mst_J, mst_B, mst_sI, mst_sI0, mst_sJ, mst_sJ0, uR_s, uR_o, uR_2, uR_uR, uL_s, uL_o, uL_1, up_s, up_o, mT, mN, mR, va_rf_some, litA, litB, litM, nI_add, okZ_0, okZ_1, okZ_zb, zb_0, gB_add, inb_lit, cl_lit, Nat.lt_irrefl, ↓reduceIte, if_true, if_false, RP_v, RP_n, s_is1, s_is0, s_may1, s_may0, uT_0, uT_o, uT_2, uT_T, s_isAsker', s_isClass', s_isIn9, s_isIn5, s_isIn4, s_isIn59, s_isIn3, s_isIn20, s_isTally', s_areTicks', q, zb_true, zb_false, hb]
theorem prS_congr {b b' : Nat → Nat → Bool} {K : Nat} (h : ∀ p q, p < K → q < K → b p q = b' p q) : prS b K K = prS b' K K := by
  have : ∀ P, P ≤ K → prS b K P = prS b' K P := by
    intro P
    induction P with
    | zero => intro _; rfl
    | succ P ih =>
      intro hP
      rw [prS, prS, ih (by omega)]
      congr 1
      have : ∀ m, m ≤ K - 1 - P → cnt (fun j => b P (P + 1 + j)) m = cnt (fun j => b' P (P + 1 + j)) m := by
        intro m
        induction m with
        | zero => intro _; rfl
        | succ m ihm =>
          intro hm
          rw [cnt, cnt, ihm (by omega), h P (P + 1 + m) (by omega) (by omega)]
      exact this _ (Nat.le_refl _)
  exact this K (Nat.le_refl K)
theorem plc_congr {f g : Rw} {k : Int32} {n : Nat} (hn : n ≤ 5) (h : ∀ p, p < n → f p = g p) (hf : ∃ p, p < n ∧ f p = k) : plc f k = plc g k := by
  obtain ⟨p, hp, e⟩ := hf
  have a := plc_spec (f := f) (k := k) ⟨p, by omega, e⟩
  have b := plc_spec (f := g) (k := k) ⟨p, by omega, by rw [← h p hp]; exact e⟩
  have h1 : plc f k ≤ p := Nat.not_lt.mp fun z => a.2.2 p z e
  have h2 : plc g k ≤ p := Nat.not_lt.mp fun z => b.2.2 p z (by rw [← h p hp]; exact e)
  rcases Nat.lt_trichotomy (plc f k) (plc g k) with z | z | z
  · exact absurd (by rw [← h _ (by omega)]; exact a.2.1) (b.2.2 _ z)
  · exact z
  · exact absurd (by rw [h _ (by omega)]; exact b.2.1) (a.2.2 _ z)
theorem s_differences {t t' : Int32} {K A : Nat} (hb : gB G ≤ o) (hV : VW (u.1 0) (u.1 4) K A) (ho : Ro (u.1 4) K) (h : (irB t 0 2 && irB t' 0 2) = true) :
    ∃ T S, XP PP (d + 7) 227 0 [.ref o, .int t, .int t', UV, UV, UV] [] (mst G o u) = some (.inl (some (.int (nI (prS (dfB (tlF (u.1 0) (u.1 1) (u.1 4) (fun _ => 0) K A t K) (tlF (u.1 0) (u.1 1) (u.1 4) (fun _ => 0) K A t' K)) K K)))), mst G o (uR (uR (uT u 0) 10 T) 11 S)) := by
  rw [Bool.and_eq_true] at h
  obtain ⟨q, q2⟩ := h
  have hK := hV.2.1
  have h1 := hV.1
  obtain ⟨T1, hT1⟩ : ∃ T1, T1 = tlF (u.1 0) (u.1 1) (u.1 4) (u.1 10) K A t K := ⟨_, rfl⟩
  have st1 := fun d => s_tallies (d := d) (G := G) (o := o) (u := uT u 0) (t := t) hb (VW_T hV)
  have e0 : (uT u 0).1 10 = u.1 10 := uT_o (by decide)
  rw [tlF_T, e0, ← hT1] at st1
  have hl1 : XP PP (d + 7) 227 35 [.ref o, .int t, .int t', .int 0, UV, UV] [] (mst G o (uR (uT u 0) 10 T1)) = XP PP (d + 7) 227 61 [.ref o, .int t, .int t', .int (nI K), UV, UV] [] (mst G o (uR (uR (uT u 0) 10 T1) 11 (va_cpy T1 (u.1 11) 0 0 K))) := by
    refine Eq.trans (congrArg (fun z => XP PP (d + 7) 227 35 [.ref o, .int t, .int t', .int 0, UV, UV] [] (mst G o z)) (show uR (uT u 0) 10 T1 = uR (uR (uT u 0) 10 T1) 11 (va_cpy T1 (u.1 11) 0 0 0) from by
      rw [cpy_0]
      have := uR_id (u := uR (uT u 0) 10 T1) (j := 11)
      rw [uR_o (by decide), uT_o (by decide)] at this
      exact this.symm)) ?_
    refine XP_for K (fun p => [.ref o, .int t, .int t', .int (nI p), UV, UV]) (fun p => mst G o (uR (uR (uT u 0) 10 T1) 11 (va_cpy T1 (u.1 11) 0 0 p))) ?_ ?_ 0 (Nat.zero_le _)
    · intro p hp
      have e1 : ¬ nI K ≤ nI p := nI_ge hp (by omega)
      have i1 : inb (nI p) 5 = true := inb_nI (by omega) (by omega)
      have i2 : (nI p).toNatClampNeg = p := nI_clamp (by omega)
      refine Eq.trans (by first | exact x227_35 | exact x227_35 (rf_ref _) | exact x227_35 rfl) ?_
      simp [x227_0, x227_1, x227_2, x227_5, x227_8, x227_9, x227_12, x227_15, x227_16, x227_19, x227_20, x227_23, x227_26, x227_27, x227_28, x227_29, x227_30, x227_33, x227_34, x227_36, x227_37, x227_40, x227_43, x227_44, x227_47, x227_48, x227_49, x227_52, x227_53, x227_54, x227_55, x227_58, x227_61, x227_62, x227_63, x227_66, x227_67, x227_68, x227_69, x227_73, x227_74, x227_77, x227_80, x227_82, x227_83, x227_84, x227_88, x227_89, x227_92, x227_95, x227_96, x227_97, x227_100, x227_102, x227_103, x227_106, x227_107, x227_108, x227_111, x227_113, x227_114, x227_117, x227_120, x227_121, x227_122, x227_123, x227_124, x227_127, x227_130, x227_133, x227_136, x227_137, rf_ref, c1_int, c1_ref, c1_UV, mst_T0, mst_I0, mst_R0, mst_J0, mst_T, mst_N, mst_I, mst_J, mst_B, mst_sI, mst_sI0, mst_sJ, mst_sJ0, uR_s, uR_o, uR_2, uR_uR, uL_s, uL_o, uL_1, up_s, up_o, mT, mN, mR, va_rf_some, litA, litB, litM, nI_add, okZ_0, okZ_1, okZ_zb, zb_0, gB_add, inb_lit, cl_lit, Nat.lt_irrefl, ↓reduceIte, if_true, if_false, RP_v, RP_n, s_is1, s_is0, s_may1, s_may0, uT_0, uT_o, uT_2, uT_T, h1, e1, i1, i2, hb, cpy_k, nI_1]
    · refine Eq.trans (by first | exact x227_35 | exact x227_35 (rf_ref _) | exact x227_35 rfl) ?_
      simp [x227_36, x227_37, x227_40, x227_43, x227_44, x227_47, x227_48, x227_49, x227_52, x227_53, x227_54, x227_55, x227_58, rf_ref, c1_int, c1_ref, c1_UV, mst_T0, mst_I0, mst_R0, mst_J0, mst_T, mst_N, mst_I, mst_J, mst_B, mst_sI, mst_sI0, mst_sJ, mst_sJ0, uR_s, uR_o, uR_2, uR_uR, uL_s, uL_o, uL_1, up_s, up_o, mT, mN, mR, va_rf_some, litA, litB, litM, nI_add, okZ_0, okZ_1, okZ_zb, zb_0, gB_add, inb_lit, cl_lit, Nat.lt_irrefl, ↓reduceIte, if_true, if_false, RP_v, RP_n, s_is1, s_is0, s_may1, s_may0, uT_0, uT_o, uT_2, uT_T, h1]
  obtain ⟨S, hS⟩ : ∃ S, S = va_cpy T1 (u.1 11) 0 0 K := ⟨_, rfl⟩
  rw [← hS] at hl1
  obtain ⟨T2, hT2⟩ : ∃ T2, T2 = tlF (u.1 0) (u.1 1) (u.1 4) T1 K A t' K := ⟨_, rfl⟩
  have v0 : (uR (uR (uT u 0) 10 T1) 11 S).1 0 = (uT u 0).1 0 := by rw [uR_o (by decide), uR_o (by decide)]
  have v1 : (uR (uR (uT u 0) 10 T1) 11 S).1 1 = (uT u 0).1 1 := by rw [uR_o (by decide), uR_o (by decide)]
  have v4 : (uR (uR (uT u 0) 10 T1) 11 S).1 4 = (uT u 0).1 4 := by rw [uR_o (by decide), uR_o (by decide)]
  have v10 : (uR (uR (uT u 0) 10 T1) 11 S).1 10 = T1 := by rw [uR_o (by decide), uR_s]
  have st2 := fun d => s_tallies (d := d) (G := G) (o := o) (u := uR (uR (uT u 0) 10 T1) 11 S) (t := t') (K := K) (A := A) hb (by rw [v0, v4]; exact VW_T hV)
  rw [v0, v1, v4, v10, tlF_T, ← hT2, uc11_10, uR_uR] at st2
  have hSp : ∀ p, p < K → S p = T1 p := fun p hp => by rw [hS]; unfold va_cpy; rw [if_pos (by omega)]; congr 1; omega
  have i1 := tlF_in (c := u.1 0) (w := u.1 1) (A := A) (t := t) (f := u.1 10) hK ho.1
  have i2 := tlF_sur (c := u.1 0) (w := u.1 1) (A := A) (t := t') (f := T1) hK ho.2
  rw [← hT1] at i1
  rw [← hT2] at i2
  have hon : ∀ p, p < K → ∃ q, q < K ∧ T2 q = S p := fun p hp => by
    rw [hSp p hp]
    obtain ⟨k, hk, e⟩ := vp_in_of (i1 p hp) (by omega)
    obtain ⟨q, hq, e2⟩ := i2 k hk
    exact ⟨q, hq, by rw [e2, e]⟩
  have sd := s_diff2 (d := d) (G := G) (o := o) (u := uR (uR (uT u 0) 10 T2) 11 S) (t1 := t) (t2 := t') (S := S) (T := T2) (K := K) (v3 := UV) (by rw [uR_o (by decide), uR_o (by decide), uT_0, up_o (by decide)]; exact h1) hK uR_s (by rw [uR_o (by decide), uR_s]) (fun p hp => by obtain ⟨q, hq, e⟩ := hon p hp; exact ⟨q, by omega, e⟩)
  have ep : prS (dfB S T2) K K = prS (dfB (tlF (u.1 0) (u.1 1) (u.1 4) (fun _ => 0) K A t K) (tlF (u.1 0) (u.1 1) (u.1 4) (fun _ => 0) K A t' K)) K K := by
    refine prS_congr fun p q hp hq => ?_
    have a1 : ∀ p, p < K → S p = tlF (u.1 0) (u.1 1) (u.1 4) (fun _ => 0) K A t K p := fun p hp => by rw [hSp p hp, hT1]; exact tlF_indep hK p hp
    have a2 : ∀ p, p < K → T2 p = tlF (u.1 0) (u.1 1) (u.1 4) (fun _ => 0) K A t' K p := fun p hp => by rw [hT2]; exact tlF_indep hK p hp
    unfold dfB
    rw [plc_congr hK a2 (hon p hp), plc_congr hK a2 (hon q hq), a1 p hp, a1 q hq]
  rw [ep] at sd
  refine ⟨T2, S, ?_⟩
  simp [x227_0, x227_1, x227_2, x227_5, x227_8, x227_9, x227_12, x227_15, x227_16, x227_19, x227_20, x227_23, x227_26, x227_27, x227_28, x227_29, x227_30, x227_33, x227_34, x227_61, x227_62, x227_63, x227_66, x227_67, x227_68, x227_69, rf_ref, c1_int, c1_ref, c1_UV, mst_T0, mst_I0, mst_R0, mst_J0, mst_T, mst_N, mst_I, mst_J, mst_B, mst_sI, mst_sI0, mst_sJ, mst_sJ0, uR_s, uR_o, uR_2, uR_uR, uL_s, uL_o, uL_1, up_s, up_o, mT, mN, mR, va_rf_some, litA, litB, litM, nI_add, okZ_0, okZ_1, okZ_zb, zb_0, gB_add, inb_lit, cl_lit, Nat.lt_irrefl, ↓reduceIte, if_true, if_false, RP_v, RP_n, s_is1, s_is0, s_may1, s_may0, uT_0, uT_o, uT_2, uT_T, s_isAsker', s_isClass', s_isIn9, s_isIn5, s_isIn4, s_isIn59, s_isIn3, s_isIn20, s_isTally', s_areTicks', q, q2, zb_true, zb_false, hb, st1, hl1, st2, sd]
end

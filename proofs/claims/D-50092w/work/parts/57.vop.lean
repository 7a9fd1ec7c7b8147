/-! the component: votes and passes -/
section
variable {d b : Nat} {G : Hp} {s : Bs} {c w r : Rw} {K A m : Nat}
theorem m_min {x y : Int32} : (if y < x then y else x) = (if x < y then x else y) := by
  by_cases h : y < x
  · rw [if_pos h, if_neg (fun z => absurd (Int32.lt_trans h z) Int32.lt_irrefl)]
  · by_cases h2 : x < y
    · rw [if_neg h, if_pos h2]
    · rw [if_neg h, if_neg h2]
      exact Int32.le_antisymm (Int32.not_lt.mp h) (Int32.not_lt.mp h2)
theorem va_up_c {f : Rw} {i j : Nat} {x y : Int32} (h : ¬ i = j) : va_up (va_up f i x) j y = va_up (va_up f j y) i x := by
  funext k; unfold va_up
  by_cases e : k = j
  · subst e; simp; intro z; exact absurd z.symm h
  · by_cases e2 : k = i
    · subst e2; simp [h]
    · simp [e, e2]
theorem RQ.of {r' : Rw} {q i : Nat} (hi : i < 40) (h : RQ G q r i) (e : ∀ k, 118 ≤ k → k < 358 → r' k = r k) : RQ G q r' i := by
  unfold RQ at h ⊢
  rw [e _ (by omega) (by omega), e _ (by omega) (by omega), e _ (by omega) (by omega), e _ (by omega) (by omega), e _ (by omega) (by omega)]
  exact h
theorem BQ.of {s' : Bs} {r' : Rw} {n : Nat} (hn : n ≤ 40) (h : BQ G b s r n m) (e2 : s'.2 = s.2) (e13 : s'.1 13 2 = s.1 13 2) (e19 : s'.1 0 19 = s.1 0 19) (e8 : r' 8 = r 8) (e : ∀ k, 118 ≤ k → k < 358 → r' k = r k) : BQ G b s' r' n m := by
  unfold BQ at h ⊢
  rw [e2, e13, e19, e8]
  obtain ⟨h1, h2, h3, h4, h5, hm, h6⟩ := h
  refine ⟨h1, h2, h3, h4, h5, hm, ?_⟩
  rcases h6 with ⟨a1, a2, a3, a4⟩ | ⟨q, i, a1, a2, a3, a4, a5, a6, a7, a8⟩
  · exact Or.inl ⟨a1, a2, a3, fun k hk => by
      obtain ⟨q, b1, b2, b3⟩ := a4 k hk
      exact ⟨q, b1, b2, b3.of (by omega) e⟩⟩
  · refine Or.inr ⟨q, i, a1, a2, by rw [e _ (by omega) (by omega)]; exact a3, a4, a5, a6.of (by omega) e, by rw [e _ (by omega) (by omega)]; exact a7, fun k hk => ?_⟩
    obtain ⟨q, b1, b2, b3⟩ := a8 k hk
    exact ⟨q, b1, b2, b3.of (by unfold skp; split <;> omega) e⟩
theorem RJ.n40 (h : RJ r K A) : cl (r 9) ≤ 40 := h.2.2.2.2.2.1.1
/-- a bus whose requests and tally are as they were -/
theorem BS.of {s' : Bs} {r' : Rw} (hn : cl (r 9) ≤ 40) (h : BS G b s c w r K A m) (h1 : BIr s' r' K A) (e2 : s'.2 = s.2) (e17 : s'.1 17 3 = s.1 17 3) (e13 : s'.1 13 2 = s.1 13 2) (e19 : s'.1 0 19 = s.1 0 19) (e1 : r' 1 = r 1) (e8 : r' 8 = r 8) (e9 : r' 9 = r 9) (e : ∀ k, 118 ≤ k → k < 358 → r' k = r k) : BS G b s' c w r' K A m := by
  obtain ⟨b1, b2, b3, b4, b5, b6, b7⟩ := h
  refine ⟨b1, by rw [e2]; exact b2, by rw [e2]; exact b3, e17.trans b4, h1, ?_, ?_⟩
  · rw [e2]; unfold TYo at b6 ⊢; rw [e1]; exact b6
  · rw [e9]; exact b7.of hn e2 e13 e19 e8 e
theorem cnt_pos {p : Nat → Bool} {n : Nat} : 0 < cnt p n ↔ (fst p n).isSome = true := by
  constructor
  · intro h
    cases e : fst p n with
    | some j => rfl
    | none =>
      have h0 := fst_none e
      have : cnt p n = 0 := by
        clear e h
        induction n with
        | zero => rfl
        | succ n ih => unfold cnt; rw [ih (fun k hk => h0 k (by omega)), h0 n (by omega)]; rfl
      omega
  · intro h
    obtain ⟨j, e⟩ := Option.isSome_iff_exists.mp h
    obtain ⟨a, b, _⟩ := fst_spec e
    clear e h
    induction n with
    | zero => omega
    | succ n ih =>
      unfold cnt
      by_cases q : j = n
      · subst q; rw [if_pos b]; omega
      · have := ih (by omega); omega
/-- what a tally puts into a row is the twin's outcome -/
theorem Ins.tl {F f : Rw} {t : Int32} (hK : K ≤ 5) (ha : (fst (cnB c r) A).isSome = true) (h : Ins (btr c w r K A t) K F) : ∀ p, p < K → F p = tlF c w r f K A t K p := by
  intro p hp
  obtain ⟨k, hk, e⟩ := rk_surj (btr_SO (c := c) (w := w) (r := r) (A := A) (t := t) hK) hp
  have h1 := h k hk
  have h2 := tlF_any (c := c) (w := w) (r := r) (f := f) (t := t) hK ha (Nat.le_refl K) k hk
  rw [rnk_rk, e] at h2
  rw [e] at h1
  rw [h1, h2]
theorem shC_SHH (hC : CW c w K A) (h : BV G b s c w r K A) {c' : Rw} : SHH (bst G b (shC s c' w r K A)) (b + 17) c' w r K A := by
  obtain ⟨hb, hK, hA, hS, hz, h3, hs, hbl, hB⟩ := h
  obtain ⟨v1, v2, v3⟩ := ctS_v (c := c') (w := w) (r := r) (P := zrF (s.1 18) 5) (F := zrF (s.1 19) 25) (B := zrF (s.1 20) 25) hK hB A (Nat.le_refl A)
  unfold shC
  refine ⟨?_, ?_, ?_, ?_, ?_, ?_, ?_, ?_, ?_, ?_, ?_, fun k hk => ?_, fun k p hk hp => ?_, fun k l hk hl => ?_, hK, hA, hC.2.1, hB⟩
  · exact bst_T (j := 17) (by omega)
  · exact bst_R (j := 17) (by omega)
  · exact bst_R (j := 17) (by omega)
  · exact bst_R (j := 17) (by omega)
  · exact bst_T (j := 18) (by omega)
  · exact bst_T (j := 19) (by omega)
  · exact bst_T (j := 20) (by omega)
  · exact bst_N (j := 18) (by omega)
  · exact bst_N (j := 19) (by omega)
  · exact bst_N (j := 20) (by omega)
  · rw [bst_I (j := 17) (by omega), shU_17, up_o (by decide)]; exact h3
  · refine (bst_I (j := 18) (by omega)).trans ?_
    rw [shU_18, v1 k hk]
    unfold zrF
    rw [if_pos (by omega), Int32.zero_add]
  · refine (bst_I (j := 19) (by omega)).trans ?_
    rw [shU_19, v2 k p hk hp]
    unfold zrF
    rw [if_pos (by omega), Int32.zero_add]
  · refine (bst_I (j := 20) (by omega)).trans ?_
    rw [shU_20, v3 k l hk hl]
    unfold zrF
    rw [if_pos (by omega), Int32.zero_add]
theorem C22.o (h : C22 G) (hb : gB G ≤ b) : inB b (gA G 22) = false := inB_f.mpr (Or.inl (by have := h.1; omega))
set_option maxHeartbeats 4000000
set_option maxRecDepth 20000
theorem shC_o {j : Nat} {c' : Rw} (h : ¬ j = 17) (h1 : ¬ j = 18) (h2 : ¬ j = 19) (h3 : ¬ j = 20) : (shC s c' w r K A).1 j = s.1 j := shU_o h h1 h2 h3
theorem s_vote (hC : CW c w K A) (h22 : C22 G) (hR : RJ r K A) (h : BS G b s c w r K A m) :
    ∃ s', XP PP (d + 10) 124 0 [.ref b] [] (bst G b s) = some (.inl (none), bst G b s') ∧ BS G b s' c w (orF r (tlF c w r (fun _ => 0) K A (r 1) K) K) K A m ∧ s'.2 = s.2 := by
  have hV := h.V hC hR
  have h' := h
  obtain ⟨hb, hS, hz, h3, hI, hT, hQ⟩ := h
  have hK := hC.K5
  have hA := hC.A8
  have hc : va_up c 19 (-1) = c := by have := va_up_id (f := c) (k := 19); rwa [hC.2.2] at this
  have sc := fun d => s_busCount (d := d) (x := -1) hV
  rw [hc] at sc
  obtain ⟨s1, hs1⟩ : ∃ s1, s1 = shC s c w r K A := ⟨_, rfl⟩
  have e17 : s1.1 17 4 = nI (cnt (cnB c r) A) := by rw [hs1]; unfold shC; rw [shU_17, up_s]
  have e17' : s1.1 17 3 = s.1 17 3 := by rw [hs1]; unfold shC; rw [shU_17, up_o (by decide)]
  have eo : ∀ j, j < 17 → s1.1 j = s.1 j := fun j hj => by rw [hs1]; exact shC_o (by omega) (by omega) (by omega) (by omega)
  have e2 : s1.2 = s.2 := by rw [hs1]; rfl
  have hI1 : BIr s1 r K A := by
    rw [hs1]
    unfold shC shU
    exact (((hI.row_s (by omega)).row_s (by omega)).row_s (by omega)).row_s (by omega)
  have hle : cnt (cnB c r) A ≤ A := cnt_le _ _
  -- what is behind the order
  have hfin : ∀ F, (∀ p, p < K → F p = tlF c w r (fun _ => 0) K A (r 1) K p) → BS G b (bI (bI s1 8 F) 0 (va_up (va_up (s1.1 0) 22 (s1.1 0 22 + 1)) 24 0)) c w (orF r (tlF c w r (fun _ => 0) K A (r 1) K) K) K A m := by
    intro F hF
    have i1 := BIr.ord (T := tlF c w r (fun _ => 0) K A (r 1) K) hK hA hI1 hF
    have i2 := i1.up (v := 0) hK hA (show pos K A 0 24 = some 4 from rfl)
    have i3 := i2.up (v := r 5 + 1) hK hA (show pos K A 0 22 = some 5 from rfl)
    have e5 : r 5 = s1.1 0 22 := (hI1 0 22 5 rfl).symm
    rw [bI_bI, bI_s, bI_o (by decide), va_up_c (by decide)] at i3
    refine h'.of hR.n40 ?_ (by rw [bI_2, bI_2, e2]) ?_ ?_ ?_ ?_ ?_ ?_ (fun k hk hk2 => ?_)
    · unfold orF
      rw [← e5]
      exact i3
    · rw [bI_o (by decide), bI_o (by decide), e17']
    · rw [bI_o (by decide), bI_o (by decide), eo 13 (by omega)]
    · rw [bI_s, up_o (by decide), up_o (by decide), eo 0 (by omega)]
    · unfold orF; rw [up_o (by decide), up_o (by decide)]; unfold va_cpy; rw [if_neg (by omega)]
    · unfold orF; rw [up_o (by decide), up_o (by decide)]; unfold va_cpy; rw [if_neg (by omega)]
    · unfold orF; rw [up_o (by decide), up_o (by decide)]; unfold va_cpy; rw [if_neg (by omega)]
    · unfold orF; rw [up_o (by omega), up_o (by omega)]; unfold va_cpy; rw [if_neg (by omega)]
  by_cases q : 0 < cnt (cnB c r) A
  · have hany := cnt_pos.mp q
    have q1 : ¬ s1.1 17 4 ≤ 0 := by rw [e17, show (0 : Int32) = nI 0 from rfl, nI_leI (by omega) (by omega)]; omega
    obtain ⟨hTo, t, ht, hrt, hTt, -⟩ := hT
    have hSH := shC_SHH (c' := c) hC hV
    rw [← hs1] at hSH
    have hTt' : gT (bst G b s1) s.2.2.1 = 2 + t := by rw [bst_Tr hTo]; exact hTt
    obtain ⟨F, hF, -, hx⟩ := s_orderC (d := d) (G := bst G b s1) (q := b + 17) (wr := b + 8) (ty := s.2.2.1) ht hTt' (by rw [bst_A, bst_Tr (h22.o hb)]; exact h22.2) hSH (fun j hj => by omega) (bst_T (j := 8) (by omega)) (bst_N (j := 8) (by omega)) (by rw [bst_B]; omega)
    rw [bst_sIr (by omega)] at hx
    rw [← hrt] at hF
    refine ⟨_, ?_, hfin F (hF.tl hK hany), by rw [bI_2, bI_2, e2]⟩
    have tys : t = 0 ∨ t = 1 ∨ t = 2 := by omega
    rw [← hs1] at sc
    rcases tys with e | e | e <;> subst e <;> simp [x124_0, x124_1, x124_2, x124_5, x124_8, x124_11, x124_12, x124_15, x124_16, x124_19, x124_20, x124_23_2, x124_23_3, x124_23_4, x124_26, x124_27, x124_28, x124_31, x124_32, x124_33, x124_36, x124_37, x124_38, x124_41, bst_T0, bst_T, bst_N, bst_I0, bst_I, bst_R0, bst_R, bst_B, bst_X, bst_S, bst_A, bst_sI, bst_sI0, bst_sC, bst_sY, bst_sE, bI_s, bI_o, bI_2, bI_bI, bC_1, bY_1, bE_1, bT, bN, bR, rf_ref, rf_va, rf_null, c1_int, c1_ref, c1_UV, rvo_n, rvo_r, c1_null, c1_va, up_s, up_o, va_rf_some, va_rf_none, litA, litB, litM, nI_add, okZ_0, okZ_1, okZ_zb, zb_0, gB_add, inb_lit, cl_lit, Nat.lt_irrefl, ↓reduceIte, if_true, if_false, RP_v, RP_n, sc, q1, e2, hTt', hx, hb]
  · have q1 : s1.1 17 4 ≤ 0 := by rw [e17, show cnt (cnB c r) A = 0 by omega]; decide
    have hany : ¬ (fst (cnB c r) A).isSome = true := fun z => q (cnt_pos.mpr z)
    refine ⟨_, ?_, hfin (s1.1 8) (fun p hp => ?_), by rw [bI_2, bI_2, e2]⟩
    · rw [bI_id]
      rw [← hs1] at sc
      simp [x124_0, x124_1, x124_2, x124_5, x124_8, x124_11, x124_12, x124_15, x124_16, x124_19, x124_20, x124_23_2, x124_23_3, x124_23_4, x124_26, x124_27, x124_28, x124_31, x124_32, x124_33, x124_36, x124_37, x124_38, x124_41, bst_T0, bst_T, bst_N, bst_I0, bst_I, bst_R0, bst_R, bst_B, bst_X, bst_S, bst_A, bst_sI, bst_sI0, bst_sC, bst_sY, bst_sE, bI_s, bI_o, bI_2, bI_bI, bC_1, bY_1, bE_1, bT, bN, bR, rf_ref, rf_va, rf_null, c1_int, c1_ref, c1_UV, rvo_n, rvo_r, c1_null, c1_va, up_s, up_o, va_rf_some, va_rf_none, litA, litB, litM, nI_add, okZ_0, okZ_1, okZ_zb, zb_0, gB_add, inb_lit, cl_lit, Nat.lt_irrefl, ↓reduceIte, if_true, if_false, RP_v, RP_n, sc, q1, hb]
    · rw [tlF_none hany p hp]
      refine hI1 8 p _ ?_
      unfold pos
      rw [if_neg (by omega), if_neg (by omega), if_neg (by omega), if_pos rfl, if_pos hp]
theorem s_pass (hC : CW c w K A) (hR : RJ r K A) (h : BS G b s c w r K A m) :
    ∃ s', XP PP (d + 2) 125 0 [.ref b] [] (bst G b s) = some (.inl (none), bst G b s') ∧ BS G b s' c w (psF r A) K A m ∧ s'.2 = s.2 := by
  have h' := h
  obtain ⟨hb, hS, hz, h3, hI, hT, hQ⟩ := h
  have hK := hC.K5
  have hA := hC.A8
  obtain ⟨a, ha, ea⟩ := vp_in_of hR.1.1 (by omega)
  have i23 : s.1 0 23 = nI a := (hI 0 23 2 rfl).trans ea
  have i25 : s.1 0 25 = r 3 := hI 0 25 3 rfl
  have hp3 : pos K A 3 a = some (36 + a) := by unfold pos; rw [if_neg (by omega), if_pos (by omega), if_pos (by omega)]
  have i3 : s.1 3 a = r (36 + a) := hI 3 a _ hp3
  have i4 : inb (nI a) 8 = true := inb_nI (by omega) (by omega)
  have i5 : (nI a).toNatClampNeg = a := nI_clamp (by omega)
  have i6 : nI (a + 1) - nI (a + 1) / nI A * nI A = nI ((a + 1) % A) := pk_rem (by omega) (by omega) (by omega)
  have i7 : ¬ nI A = 0 := fun z => by have := (nI_eq (a := A) (b := 0) (by omega) (by omega)).mp z; omega
  have z0 := hz.z
  have hS' := hS
  obtain ⟨zT, zR0, zR1, zR2, zR3, zR4, zR5, zR6, zT1, zT2, zT5, zT6, zT7, zN5, zN6, zN7, zK, zA, zW, zc3, zc4, zc5, zc6, zc7⟩ := hS
  have sA := fun d f g => s_suAskers (d := d) (b := b) (G := G) (s := bI (bI s 3 f) 0 g) hz hS'
  have sA2 := fun d => s_suAskers (d := d) (b := b) (G := G) (s := s) hz hS'
  have sA3 := fun d f => s_suAskers (d := d) (b := b) (G := G) (s := bI s 3 f) hz hS'
  simp only [bI_2] at sA sA3
  -- what is behind
  have hfin : ∀ s1 r1, BS G b s1 c w r1 K A m → cl (r1 9) ≤ 40 → r1 1 = r 1 → BS G b (bI s1 0 (va_up (va_up (s1.1 0) 23 (nI ((a + 1) % A))) 25 0)) c w (va_up (va_up r1 3 0) 2 (nI ((a + 1) % A))) K A m := by
    intro s1 r1 hs1 hR1 e1
    have hI1 := hs1.2.2.2.2.1
    have i2 := (hI1.up (v := 0) hK hA (show pos K A 0 25 = some 3 from rfl)).up (v := nI ((a + 1) % A)) hK hA (show pos K A 0 23 = some 2 from rfl)
    rw [bI_bI, bI_s, va_up_c (by decide)] at i2
    refine hs1.of hR1 i2 (by rw [bI_2]) ?_ ?_ ?_ ?_ ?_ ?_ (fun k hk hk2 => ?_)
    · rw [bI_o (by decide)]
    · rw [bI_o (by decide)]
    · rw [bI_s, up_o (by decide), up_o (by decide)]
    · rw [up_o (by decide), up_o (by decide)]
    · rw [up_o (by decide), up_o (by decide)]
    · rw [up_o (by decide), up_o (by decide)]
    · rw [up_o (by omega), up_o (by omega)]
  unfold psF
  have hcl : cl (r 2) = a := by rw [ea]; exact i5
  rw [hcl]
  dsimp only
  by_cases q : r 3 = 0
  · rw [if_pos q]
    have i2 := hI.up (v := if 99 < r (36 + a) + 1 then 99 else r (36 + a) + 1) hK hA hp3
    have h1 := h'.of hR.n40 (s' := bI s 3 (va_up (s.1 3) a (if 99 < r (36 + a) + 1 then 99 else r (36 + a) + 1))) i2 (by rw [bI_2]) (by rw [bI_o (by decide)]) (by rw [bI_o (by decide)]) (by rw [bI_o (by decide)]) (up_o (by omega)) (up_o (by omega)) (up_o (by omega)) (fun k hk hk2 => up_o (by omega))
    refine ⟨_, ?_, hfin _ _ h1 (by rw [up_o (by omega)]; exact hR.n40) (up_o (by omega)), by rw [bI_2, bI_2]⟩
    have q3 := m_min (x := 99) (y := r (36 + a) + 1)
    simp [x125_0, x125_1, x125_4, x125_7, x125_8, x125_11, x125_12, x125_15, x125_17, x125_18, x125_21, x125_22, x125_25, x125_26, x125_27, x125_28, x125_31, x125_32, x125_33, x125_34, x125_37, x125_38, x125_39, x125_40, x125_43, x125_46, x125_47, x125_50, x125_51, x125_52, x125_55, bst_T0, bst_T, bst_N, bst_I0, bst_I, bst_R0, bst_R, bst_B, bst_X, bst_S, bst_A, bst_sI, bst_sI0, bst_sC, bst_sY, bst_sE, bI_s, bI_o, bI_2, bI_bI, bC_1, bY_1, bE_1, bT, bN, bR, rf_ref, rf_va, rf_null, c1_int, c1_ref, c1_UV, rvo_n, rvo_r, c1_null, c1_va, up_s, up_o, va_rf_some, va_rf_none, litA, litB, litM, nI_add, okZ_0, okZ_1, okZ_zb, zb_0, gB_add, inb_lit, cl_lit, Nat.lt_irrefl, ↓reduceIte, if_true, if_false, RP_v, RP_n, hb, i23, i25, q, i3, i4, i5, i6, i7, sA, sA3, bst_Tr, bst_Rr, z0, zT, q3, nI_1]
  · rw [if_neg q]
    refine ⟨_, ?_, hfin _ _ h' hR.n40 rfl, by rw [bI_2]⟩
    simp [x125_0, x125_1, x125_4, x125_7, x125_8, x125_11, x125_12, x125_15, x125_17, x125_18, x125_21, x125_22, x125_25, x125_26, x125_27, x125_28, x125_31, x125_32, x125_33, x125_34, x125_37, x125_38, x125_39, x125_40, x125_43, x125_46, x125_47, x125_50, x125_51, x125_52, x125_55, bst_T0, bst_T, bst_N, bst_I0, bst_I, bst_R0, bst_R, bst_B, bst_X, bst_S, bst_A, bst_sI, bst_sI0, bst_sC, bst_sY, bst_sE, bI_s, bI_o, bI_2, bI_bI, bC_1, bY_1, bE_1, bT, bN, bR, rf_ref, rf_va, rf_null, c1_int, c1_ref, c1_UV, rvo_n, rvo_r, c1_null, c1_va, up_s, up_o, va_rf_some, va_rf_none, litA, litB, litM, nI_add, okZ_0, okZ_1, okZ_zb, zb_0, gB_add, inb_lit, cl_lit, Nat.lt_irrefl, ↓reduceIte, if_true, if_false, RP_v, RP_n, hb, i23, i25, q, i6, i7, sA2, bst_Tr, bst_Rr, z0, zT, nI_1]
end

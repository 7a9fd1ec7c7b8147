/-! the component: a request is taken out of the line; the next one is fetched -/
theorem rmF_k {f : Nat → Option Nat} {j m k : Nat} (hj : j < m) (hk : k < m - 1) : rmF f j m k = f (skp j k) := by
  unfold rmF skp
  rw [up_o (by omega)]
  unfold va_cpy
  by_cases q : k < j
  · rw [if_neg (by omega), if_pos q]
  · rw [if_pos (by omega), if_neg q]
    congr 1; omega
theorem bC_id {s : Bs} {q : Option Nat} (h : s.2.2.2.1 = q) : bC s q = s := by subst h; rfl
/-- a write into the elements of a list changes neither setup nor requests -/
theorem SU.rr {G : Hp} {z K A e : Nat} {c w : Rw} {f : Nat → Option Nat} (h : SU G z c w K A) (he : gT G e = 110) : SU (sRr G e f) z c w K A := by
  obtain ⟨zT, zR0, zR1, zR2, zR3, zR4, zR5, zR6, zT1, zT2, zT5, zT6, zT7, zN5, zN6, zN7, zK, zA, zW, zc3, zc4, zc5, zc6, zc7⟩ := h
  have h0 : ¬ z = e := fun x => by rw [x, he] at zT; exact absurd zT (by decide)
  exact ⟨zT, by rw [sRr_o h0]; exact zR0, by rw [sRr_o h0]; exact zR1, by rw [sRr_o h0]; exact zR2, by rw [sRr_o h0]; exact zR3, by rw [sRr_o h0]; exact zR4, by rw [sRr_o h0]; exact zR5, by rw [sRr_o h0]; exact zR6, zT1, zT2, zT5, zT6, zT7, zN5, zN6, zN7, zK, zA, zW, zc3, zc4, zc5, zc6, zc7⟩
section
variable {d b m : Nat} {G : Hp} {s : Bs} {c w r : Rw} {K A n : Nat} {ix : Nat → Nat}
set_option maxHeartbeats 4000000
set_option maxRecDepth 20000
/-- the line without element j -/
def lsB (s : Bs) (m : Nat) : Bs := bI s 13 (va_up (va_up (s.1 13) 0 (s.1 13 0 + 1)) 2 (nI (m - 1)))
theorem s_drop {x : Int32} {j : Nat} (hb : gB G ≤ b) (h : BX G b s r m ix) (hbe : gB G ≤ s.2.2.2.2) (hj : fst (fun k => decide (r (118 + 6 * ix k) = x)) m = some j) :
    XP PP (d + 4) 129 0 [.ref b, .int x] [] (bst G b s) = some (.inl (some (va_rf (gR G s.2.2.2.2 j))), bst (sRr G s.2.2.2.2 (rmF (gR G s.2.2.2.2) j m)) b (lsB s m)) := by
  have hAL := h.AL
  have hp := fun d => s_busPlace (d := d) (x := x) h
  rw [hj] at hp
  have hjm := (fst_spec hj).1
  obtain ⟨h1, h2, h3, h4, h5, h6, h7⟩ := h
  have sr := fun d => s_alRemove (d := d) hAL hjm (by rw [bst_Nr h2]; exact h4) (by rw [bst_B]; omega) (by rw [bst_B]; exact hbe) (fun k hk => by
    obtain ⟨q, w1, w2, w3⟩ := h7 k hk
    exact ⟨q, by rw [bst_Rr h2]; exact w1, by rw [bst_Tr w2, w3.1]; rfl⟩)
  rw [bst_Rr h2, bst_Rrr h2, bst_I (j := 13) (by omega), bst_sI (j := 13) (by omega), bst_sI (j := 13) (by omega), bst_sRro h2, bI_s, bI_bI] at sr
  obtain ⟨q, w1, w2, w3⟩ := h7 j hjm
  have hT : gT (bst (sRr G s.2.2.2.2 (rmF (gR G s.2.2.2.2) j m)) b (lsB s m)) q = 11 := by rw [bst_Tr w2]; exact w3.1
  unfold lsB at hT ⊢
  rw [w1] at sr ⊢
  have e0 : oI (some j) = nI j := rfl
  rw [e0] at hp
  simp [x129_0, x129_1, x129_4, x129_5, x129_6, x129_9_13, x129_9_19, x129_14, x129_14n, x129_17, bst_T0, bst_T, bst_N, bst_I0, bst_I, bst_R0, bst_R, bst_B, bst_X, bst_S, bst_A, bst_sI, bst_sI0, bst_sC, bst_sY, bst_sE, bI_s, bI_o, bI_2, bI_bI, bC_1, bY_1, bE_1, bT, bN, bR, rf_ref, rf_va, rf_null, c1_int, c1_ref, c1_UV, rvo_n, rvo_r, c1_null, c1_va, up_s, up_o, va_rf_some, va_rf_none, litA, litB, litM, nI_add, okZ_0, okZ_1, okZ_zb, zb_0, gB_add, inb_lit, cl_lit, Nat.lt_irrefl, ↓reduceIte, if_true, if_false, RP_v, RP_n, hp, sr, hT]
theorem BX.drop {j : Nat} {f : Nat → Option Nat} (h : BX G b s r m ix) (hj : j < m) : BX (sRr G s.2.2.2.2 (rmF (gR G s.2.2.2.2) j m)) b (lsB s m) r (m - 1) (fun k => ix (skp j k)) := by
  obtain ⟨h1, h2, h3, h4, h5, h6, h7⟩ := h
  refine ⟨h1, h2, Nat.le_trans (Nat.sub_le _ _) h3, h4, ?_, by omega, fun k hk => ?_⟩
  · show (bI s 13 _).1 13 2 = _
    rw [bI_s, up_s]
  · obtain ⟨q, w1, w2, w3⟩ := h7 (skp j k) (by unfold skp; split <;> omega)
    refine ⟨q, ?_, w2, w3⟩
    show gR (sRr G s.2.2.2.2 _) s.2.2.2.2 k = _
    rw [sRr_s, rmF_k hj hk]; exact w1
/-- a bus whose requests wait all -/
theorem BQ.X (h : BQ G b s r n m) (hN : gN G s.2.2.2.2 < 2 ^ 31) (h0 : s.2.2.2.1 = none) : n = m ∧ r 8 = -1 ∧ BX G b s r m (fun k => k) := by
  obtain ⟨h1, h2, h3, h4, h5, h6, h7⟩ := h
  rcases h7 with ⟨a1, a2, a3, a4⟩ | ⟨q, i, a1, _⟩
  · exact ⟨a3, a2, h1, h2, h3, hN, h5, h6, a4⟩
  · rw [h0] at a1; cases a1
theorem ser_fst {j : Nat} (hR : RI r K A n) (hX : ∀ k, k < m → ix k < n) (hi : ∀ j k, j < k → k < m → ix j < ix k) (hj : j < m) : fst (fun k => decide (r (118 + 6 * ix k) = r (118 + 6 * ix j))) m = some j := by
  cases e : fst (fun k => decide (r (118 + 6 * ix k) = r (118 + 6 * ix j))) m with
  | none => have := fst_none e j hj; simp at this
  | some l =>
    obtain ⟨a, b, _⟩ := fst_spec e
    have := hR.serI (hX l a) (hX j hj) (of_decide_eq_true b)
    rcases Nat.lt_trichotomy l j with z | z | z
    · have := hi l j z hj; omega
    · rw [z]
    · have := hi j l z a; omega
/-- the requests of a bus -/
def RS (G : Hp) (s : Bs) (m q : Nat) : Prop := s.2.2.2.1 = some q ∨ ∃ k, k < m ∧ gR G s.2.2.2.2 k = some q
theorem RS.of {s' : Bs} {q : Nat} (h : RS G s' m q) (e : s'.2 = s.2) : RS G s m q := by unfold RS at h ⊢; rw [← e]; exact h
/-- from the request found on -/
theorem s_fetch2 {j q : Nat} {v1 v2 : Value} (hC : CW c w K A) (hR : RI r K A n) (h : BS G b s c w r K A m) (hn : cl (r 9) = n) (h0 : s.2.2.2.1 = none) (hN : gN G s.2.2.2.2 < 2 ^ 31) (hj : j < m) (hq : gR G s.2.2.2.2 j = some q) :
    ∃ s', XP PP (d + 5) 126 53 [.ref b, v1, v2] [] (bst G b (bC s (some q))) = some (.inl none, bst (sRr G s.2.2.2.2 (rmF (gR G s.2.2.2.2) j m)) b s') ∧ BS (sRr G s.2.2.2.2 (rmF (gR G s.2.2.2.2) j m)) b s' c w (va_up r 8 (r (118 + 6 * j))) K A (m - 1) ∧ s'.2.1 = s.2.1 ∧ s'.2.2.1 = s.2.2.1 ∧ s'.2.2.2.2 = s.2.2.2.2 ∧ ∀ q', RS (sRr G s.2.2.2.2 (rmF (gR G s.2.2.2.2) j m)) s' (m - 1) q' → RS G s m q' := by
  obtain ⟨hb, hS, hz, h3, hI, hT, hQ⟩ := h
  have hK := hC.K5
  have hA := hC.A8
  rw [hn] at hQ
  have hbe := hQ.2.2.2.1 (by omega)
  obtain ⟨enm, e8, hX⟩ := hQ.X hN h0
  subst enm
  have hn40 : n ≤ 40 := hR.2.2.2.2.2.1.1
  obtain ⟨q', w1, w2, w3⟩ := hX.2.2.2.2.2.2 j hj
  rw [hq] at w1
  cases w1
  obtain ⟨s1, hs1⟩ : ∃ s1, s1 = bI (bC s (some q)) 0 (va_up (s.1 0) 19 (r (118 + 6 * j + 3))) := ⟨_, rfl⟩
  have e2 : s1.2.2.2.2 = s.2.2.2.2 := by rw [hs1]; rfl
  have hX1 : BX G b s1 r n (fun k => k) := by
    obtain ⟨a1, a2, a3, a4, a5, a6, a7⟩ := hX
    refine ⟨by rw [e2]; exact a1, by rw [e2]; exact a2, by rw [e2]; exact a3, by rw [e2]; exact a4, ?_, a6, by rw [e2]; exact a7⟩
    rw [hs1, bI_o (by decide), bC_1]; exact a5
  have sf := ser_fst (ix := fun k => k) (m := n) hR (fun k hk => hk) (fun j k h _ => h) hj
  have sd := fun d => s_drop (d := d) hb hX1 (by rw [e2]; exact hbe) sf
  rw [e2, hq] at sd
  have hX2 := hX1.drop (f := gR G s.2.2.2.2) hj
  rw [e2] at hX2
  refine ⟨lsB s1 n, ?_, ⟨hb, by rw [hs1]; exact hS.rr hX.1, ?_, ?_, ?_, ?_, ?_⟩, ?_, ?_, ?_, ?_⟩
  · have t1 : gT (bst G b (bC s (some q))) q = 11 := by rw [bst_Tr w2]; exact w3.1
    have t2 : gI (bst G b (bC s (some q))) q 3 = r (118 + 6 * j + 3) := by rw [bst_Ir w2]; exact w3.2.2.2.2.1
    have t3 : gT (bst G b s1) q = 11 := by rw [bst_Tr w2]; exact w3.1
    have t4 : gI (bst G b s1) q 0 = r (118 + 6 * j) := by rw [bst_Ir w2]; exact w3.2.1
    have t5 : s1.2.2.2.1 = some q := by rw [hs1]; rfl
    have t6 : (bC s (some q)).2.2.2.1 = some q := rfl
    have t7 : bI (bC s (some q)) 0 (va_up (s.1 0) 19 (r (118 + 6 * j + 3))) = s1 := hs1.symm
    simp [x126_53, x126_54, x126_57n, x126_57r, x126_60, x126_61, x126_62, x126_63, x126_66, x126_69, x126_72, x126_73, x126_74, x126_77, x126_80, x126_83, x126_84, bst_T0, bst_T, bst_N, bst_I0, bst_I, bst_R0, bst_R, bst_B, bst_X, bst_S, bst_A, bst_sI, bst_sI0, bst_sC, bst_sY, bst_sE, bI_s, bI_o, bI_2, bI_bI, bC_1, bY_1, bE_1, bT, bN, bR, rf_ref, rf_va, rf_null, c1_int, c1_ref, c1_UV, rvo_n, rvo_r, c1_null, c1_va, up_s, up_o, va_rf_some, va_rf_none, litA, litB, litM, nI_add, okZ_0, okZ_1, okZ_zb, zb_0, gB_add, inb_lit, cl_lit, Nat.lt_irrefl, ↓reduceIte, if_true, if_false, RP_v, RP_n, hb, t1, t2, t3, t4, t5, t6, t7, sd]
  · rw [hs1]; exact hz
  · rw [hs1]
    show (bI _ 13 _).1 17 3 = _
    rw [bI_o (by decide), bI_o (by decide)]; exact h3
  · rw [hs1]
    refine BIr.up_r hK hA ?_ (Or.inr (Or.inl rfl))
    refine BIr.row_s ?_ (by omega)
    exact BIr.up_s (s := bC s (some q)) (hI.of_s rfl) rfl
  · rw [hs1]
    show TYo _ b s.2.2.1 _
    unfold TYo at hT ⊢
    rw [up_o (by decide)]
    exact hT
  · rw [up_o (by decide), hn]
    obtain ⟨a1, a2, a3, a4, a5, a6, a7⟩ := hX2
    have e3 : (lsB s1 n).2.2.2.2 = s.2.2.2.2 := by rw [hs1]; rfl
    refine ⟨a1, a2, a3, fun _ => by rw [e3]; exact hbe, a5, a6, Or.inr ⟨q, j, by rw [hs1]; rfl, hj, ?_, by omega, w2, ?_, ?_, fun k hk => ?_⟩⟩
    · rw [up_s, up_o (by omega)]
    · exact RQ.of (G := sRr G s.2.2.2.2 _) (by omega) w3 (fun k hk hk2 => up_o (by omega))
    · rw [up_o (by omega)]
      have : (lsB s1 n).1 0 19 = r (118 + 6 * j + 3) := by
        rw [hs1]
        show (bI _ 13 _).1 0 19 = _
        rw [bI_o (by decide), bI_s, up_s]
      rw [this]
      refine (hR.2.2.2.2.2.2 j hj ?_).symm
      rw [e8]; exact hR.ser1 hj
    · obtain ⟨q2, y1, y2, y3⟩ := a7 k hk
      exact ⟨q2, y1, y2, y3.of (by unfold skp; split <;> omega) (fun k hk hk2 => up_o (by omega))⟩
  · rw [hs1]; rfl
  · rw [hs1]; rfl
  · rw [hs1]; rfl
  · intro q' hq'
    right
    have e3 : (lsB s1 n).2.2.2.2 = s.2.2.2.2 := by rw [hs1]; rfl
    have e4 : (lsB s1 n).2.2.2.1 = some q := by rw [hs1]; rfl
    rcases hq' with z | ⟨k, hk, z⟩
    · rw [e4] at z; cases z
      exact ⟨j, hj, hq⟩
    · rw [e3, sRr_s, rmF_k hj hk] at z
      exact ⟨skp j k, by unfold skp; split <;> omega, z⟩
theorem s_fetch (hC : CW c w K A) (hL : CLM G) (hR : RI r K A n) (h : BS G b s c w r K A m) (h0 : s.2.2.2.1 = none) (hN : gN G s.2.2.2.2 < 2 ^ 31) :
    ∃ f s' m', XP PP (d + 5) 126 0 [.ref b, UV, UV] [] (bst G b s) = some (.inl (none), bst (sRr G s.2.2.2.2 f) b s') ∧ BS (sRr G s.2.2.2.2 f) b s' c w (nxF r K n) K A m' ∧ s'.2.1 = s.2.1 ∧ s'.2.2.1 = s.2.2.1 ∧ s'.2.2.2.2 = s.2.2.2.2 ∧ (gB G ≤ s.2.2.2.2 ∨ f = gR G s.2.2.2.2) ∧ ∀ q, RS (sRr G s.2.2.2.2 f) s' m' q → RS G s m q := by
  have h' := h
  obtain ⟨hb, hS, hz, h3, hI, hT, hQ⟩ := h
  have hK := hC.K5
  have hA := hC.A8
  have hn := hR.n9
  rw [hn] at hQ
  have hQ' := hQ
  obtain ⟨enm, e8, hX⟩ := hQ.X hN h0
  subst enm
  have hIX := IX_id hR e8
  have z0 := hz.z
  have hS' := hS
  obtain ⟨zT, zR0, zR1, zR2, zR3, zR4, zR5, zR6, zT1, zT2, zT5, zT6, zT7, zN5, zN6, zN7, zK, zA, zW, zc3, zc4, zc5, zc6, zc7⟩ := hS
  have sK := fun d => s_suClasses (d := d) (b := b) (G := G) (s := s) hz hS'
  have i24 : s.1 0 24 = r 4 := hI 0 24 4 rfl
  have ford : ∀ p, p < K → s.1 8 p = r (10 + p) := fun p hp => hI 8 p _ (by unfold pos; rw [if_neg (by omega), if_neg (by omega), if_neg (by omega), if_pos rfl, if_pos hp])
  have sV := fun d k => s_isVetoedC (d := d) (b := b) (G := G) (s := s) (k := k)
  have hb0 : bC s none = s := bC_id h0
  have hl : ∀ v2 : Value, c1 v2 = true → XP PP (d + 5) 126 2 [.ref b, .int 0, v2] [] (bst G b s) = (match fst (nxB r n) K with
      | some p => (match fst (lnB r n (r (10 + p)) 0) n with
        | some i => XP PP (d + 5) 126 53 [.ref b, .int (nI (p + 1)), .int (r (10 + p))] [] (bst G b (bC s (gR G s.2.2.2.2 i)))
        | none => none)
      | none => some (.inl none, bst G b s)) := by
    intro v2 hv2
    refine XP_fstX (fun e : Value => c1 e = true) K (nxB r n) (fun p e => [.ref b, .int (nI p), e]) (fun _ => bst G b s) (fun p => (match fst (lnB r n (r (10 + p)) 0) n with
        | some i => XP PP (d + 5) 126 53 [.ref b, .int (nI (p + 1)), .int (r (10 + p))] [] (bst G b (bC s (gR G s.2.2.2.2 i)))
        | none => none)) ?_ ?_ ?_ v2 hv2
    · intro p hp hx e he
      obtain ⟨k, hk, ek⟩ := vp_in_of (hR.2.1.1 p hp) (by omega)
      have e1 : ¬ nI K ≤ nI p := nI_ge hp (by omega)
      have j1 : inb (nI p) 5 = true := inb_nI (by omega) (by omega)
      have j2 : (nI p).toNatClampNeg = p := nI_clamp (by omega)
      have fo := ford p hp
      unfold nxB at hx
      rw [ek] at hx fo ⊢
      rw [Bool.and_eq_true, Bool.not_eq_true'] at hx
      obtain ⟨i, ei⟩ := Option.isSome_iff_exists.mp hx.2
      rw [ei]
      have sF := fun d => s_first (d := d) hb hL hK hA hI hk hR.2.2.2.1 hX (fun j hj => (hR.2.2.2.2.2.1.2.2.1 j hj).1)
      rw [ft_twin hR hK hA hk hIX, Option.map_eq_some_iff] at ei
      obtain ⟨i', ei', rfl⟩ := ei
      rw [ei'] at sF
      obtain ⟨q, w1, w2, w3⟩ := hX.2.2.2.2.2.2 i' (ftF_lt _ _ ei')
      have sF' : frV G s.2.2.2.2 (some i') = .ref q := by show va_rf (gR G s.2.2.2.2 i') = _; rw [w1]; rfl
      rw [sF'] at sF
      dsimp only
      rw [w1]
      have sK2 := fun d => s_suClasses (d := d) (b := b) (G := G) (s := bC s (some q)) hz hS'
      have t6 : (bC s (some q)).2.2.2.1 = some q := rfl
      have t7 : (bC s (some q)).2.1 = s.2.1 := rfl
      have hz1 : zb false = 0 := rfl
      rw [t7] at sK2
      refine Eq.trans (by first | exact x126_2 | exact x126_2 (rf_ref _) | exact x126_2 rfl) ?_
      by_cases q2 : p + 1 < K
      · have e2 : ¬ nI K ≤ nI (p + 1) := nI_ge q2 (by omega)
        have hd2 : ∀ d, XP PP (d + 4) 126 2 [.ref b, .int (nI (p + 1)), .int (nI k)] [] (bst G b (bC s (some q))) = XP PP (d + 4) 126 53 [.ref b, .int (nI (p + 1)), .int (nI k)] [] (bst G b (bC s (some q))) := by
          intro d
          refine Eq.trans (by first | exact x126_2 | exact x126_2 (rf_ref _) | exact x126_2 rfl) ?_
          simp [x126_3, x126_4, x126_7, x126_10, x126_13, x126_14, x126_17n, x126_17r, x126_20, x126_21, x126_24, x126_25, x126_26, x126_27, x126_28, x126_29, x126_32, x126_35, x126_38, x126_39, x126_40, x126_41, x126_44, x126_47, x126_50, bst_T0, bst_T, bst_N, bst_I0, bst_I, bst_R0, bst_R, bst_B, bst_X, bst_S, bst_A, bst_sI, bst_sI0, bst_sC, bst_sY, bst_sE, bI_s, bI_o, bI_2, bI_bI, bC_1, bY_1, bE_1, bT, bN, bR, rf_ref, rf_va, rf_null, c1_int, c1_ref, c1_UV, rvo_n, rvo_r, c1_null, c1_va, up_s, up_o, va_rf_some, va_rf_none, litA, litB, litM, nI_add, okZ_0, okZ_1, okZ_zb, zb_0, gB_add, inb_lit, cl_lit, Nat.lt_irrefl, ↓reduceIte, if_true, if_false, RP_v, RP_n, bst_Tr z0, zT, sK2, e2, t6, t7]
        simp [x126_0, x126_1, x126_3, x126_4, x126_7, x126_10, x126_13, x126_14, x126_17n, x126_17r, x126_20, x126_21, x126_24, x126_25, x126_26, x126_27, x126_28, x126_29, x126_32, x126_35, x126_38, x126_39, x126_40, x126_41, x126_44, x126_47, x126_50, x126_54, x126_57n, x126_57r, x126_60, x126_61, x126_62, x126_63, x126_66, x126_69, x126_72, x126_73, x126_74, x126_77, x126_80, x126_83, x126_84, bst_T0, bst_T, bst_N, bst_I0, bst_I, bst_R0, bst_R, bst_B, bst_X, bst_S, bst_A, bst_sI, bst_sI0, bst_sC, bst_sY, bst_sE, bI_s, bI_o, bI_2, bI_bI, bC_1, bY_1, bE_1, bT, bN, bR, rf_ref, rf_va, rf_null, c1_int, c1_ref, c1_UV, rvo_n, rvo_r, c1_null, c1_va, up_s, up_o, va_rf_some, va_rf_none, litA, litB, litM, nI_add, okZ_0, okZ_1, okZ_zb, zb_0, gB_add, inb_lit, cl_lit, Nat.lt_irrefl, ↓reduceIte, if_true, if_false, RP_v, RP_n, bst_Tr z0, zT, sK, h0, hb, e1, j1, j2, fo, sV, i24, hx.1, hz1, sF, he, hd2, rvo, nI_1]
      · have e2 : nI K ≤ nI (p + 1) := nI_le (by omega) (by omega)
        have hd2 : ∀ d, XP PP (d + 4) 126 2 [.ref b, .int (nI (p + 1)), .int (nI k)] [] (bst G b (bC s (some q))) = XP PP (d + 4) 126 53 [.ref b, .int (nI (p + 1)), .int (nI k)] [] (bst G b (bC s (some q))) := by
          intro d
          refine Eq.trans (by first | exact x126_2 | exact x126_2 (rf_ref _) | exact x126_2 rfl) ?_
          simp [x126_3, x126_4, x126_7, x126_10, x126_13, x126_14, x126_17n, x126_17r, x126_20, x126_21, x126_24, x126_25, x126_26, x126_27, x126_28, x126_29, x126_32, x126_35, x126_38, x126_39, x126_40, x126_41, x126_44, x126_47, x126_50, bst_T0, bst_T, bst_N, bst_I0, bst_I, bst_R0, bst_R, bst_B, bst_X, bst_S, bst_A, bst_sI, bst_sI0, bst_sC, bst_sY, bst_sE, bI_s, bI_o, bI_2, bI_bI, bC_1, bY_1, bE_1, bT, bN, bR, rf_ref, rf_va, rf_null, c1_int, c1_ref, c1_UV, rvo_n, rvo_r, c1_null, c1_va, up_s, up_o, va_rf_some, va_rf_none, litA, litB, litM, nI_add, okZ_0, okZ_1, okZ_zb, zb_0, gB_add, inb_lit, cl_lit, Nat.lt_irrefl, ↓reduceIte, if_true, if_false, RP_v, RP_n, bst_Tr z0, zT, sK2, e2, t6, t7]
        simp [x126_0, x126_1, x126_3, x126_4, x126_7, x126_10, x126_13, x126_14, x126_17n, x126_17r, x126_20, x126_21, x126_24, x126_25, x126_26, x126_27, x126_28, x126_29, x126_32, x126_35, x126_38, x126_39, x126_40, x126_41, x126_44, x126_47, x126_50, x126_54, x126_57n, x126_57r, x126_60, x126_61, x126_62, x126_63, x126_66, x126_69, x126_72, x126_73, x126_74, x126_77, x126_80, x126_83, x126_84, bst_T0, bst_T, bst_N, bst_I0, bst_I, bst_R0, bst_R, bst_B, bst_X, bst_S, bst_A, bst_sI, bst_sI0, bst_sC, bst_sY, bst_sE, bI_s, bI_o, bI_2, bI_bI, bC_1, bY_1, bE_1, bT, bN, bR, rf_ref, rf_va, rf_null, c1_int, c1_ref, c1_UV, rvo_n, rvo_r, c1_null, c1_va, up_s, up_o, va_rf_some, va_rf_none, litA, litB, litM, nI_add, okZ_0, okZ_1, okZ_zb, zb_0, gB_add, inb_lit, cl_lit, Nat.lt_irrefl, ↓reduceIte, if_true, if_false, RP_v, RP_n, bst_Tr z0, zT, sK, h0, hb, e1, j1, j2, fo, sV, i24, hx.1, hz1, sF, he, hd2, rvo, nI_1]
    · intro p hp hx e he
      obtain ⟨k, hk, ek⟩ := vp_in_of (hR.2.1.1 p hp) (by omega)
      have e1 : ¬ nI K ≤ nI p := nI_ge hp (by omega)
      have j1 : inb (nI p) 5 = true := inb_nI (by omega) (by omega)
      have j2 : (nI p).toNatClampNeg = p := nI_clamp (by omega)
      have fo := ford p hp
      unfold nxB at hx
      rw [ek] at hx fo
      have hz1 : zb false = 0 := rfl
      have hz2 : ¬ zb true = 0 := by decide
      refine ⟨.int (nI k), rfl, ?_⟩
      by_cases q1 : hasB (r 4) (nI k) = true
      · refine Eq.trans (by first | exact x126_2 | exact x126_2 (rf_ref _) | exact x126_2 rfl) ?_
        simp [x126_0, x126_1, x126_3, x126_4, x126_7, x126_10, x126_13, x126_14, x126_17n, x126_17r, x126_20, x126_21, x126_24, x126_25, x126_26, x126_27, x126_28, x126_29, x126_32, x126_35, x126_38, x126_39, x126_40, x126_41, x126_44, x126_47, x126_50, x126_54, x126_57n, x126_57r, x126_60, x126_61, x126_62, x126_63, x126_66, x126_69, x126_72, x126_73, x126_74, x126_77, x126_80, x126_83, x126_84, bst_T0, bst_T, bst_N, bst_I0, bst_I, bst_R0, bst_R, bst_B, bst_X, bst_S, bst_A, bst_sI, bst_sI0, bst_sC, bst_sY, bst_sE, bI_s, bI_o, bI_2, bI_bI, bC_1, bY_1, bE_1, bT, bN, bR, rf_ref, rf_va, rf_null, c1_int, c1_ref, c1_UV, rvo_n, rvo_r, c1_null, c1_va, up_s, up_o, va_rf_some, va_rf_none, litA, litB, litM, nI_add, okZ_0, okZ_1, okZ_zb, zb_0, gB_add, inb_lit, cl_lit, Nat.lt_irrefl, ↓reduceIte, if_true, if_false, RP_v, RP_n, bst_Tr z0, zT, sK, h0, hb, e1, j1, j2, fo, sV, i24, q1, hz2, he, nI_1]
      · rw [Bool.and_eq_false_iff] at hx
        have q1' : hasB (r 4) (nI k) = false := by simpa using q1
        have hn0 : fst (lnB r n (nI k) 0) n = none := by
          rcases hx with z | z
          · rw [q1'] at z; cases z
          · simpa using z
        have sF := fun d => s_first (d := d) hb hL hK hA hI hk hR.2.2.2.1 hX (fun j hj => (hR.2.2.2.2.2.1.2.2.1 j hj).1)
        rw [ft_twin hR hK hA hk hIX, Option.map_eq_none_iff] at hn0
        rw [hn0] at sF
        have sF' : frV G s.2.2.2.2 none = .null := rfl
        rw [sF'] at sF
        refine Eq.trans (by first | exact x126_2 | exact x126_2 (rf_ref _) | exact x126_2 rfl) ?_
        simp [x126_0, x126_1, x126_3, x126_4, x126_7, x126_10, x126_13, x126_14, x126_17n, x126_17r, x126_20, x126_21, x126_24, x126_25, x126_26, x126_27, x126_28, x126_29, x126_32, x126_35, x126_38, x126_39, x126_40, x126_41, x126_44, x126_47, x126_50, x126_54, x126_57n, x126_57r, x126_60, x126_61, x126_62, x126_63, x126_66, x126_69, x126_72, x126_73, x126_74, x126_77, x126_80, x126_83, x126_84, bst_T0, bst_T, bst_N, bst_I0, bst_I, bst_R0, bst_R, bst_B, bst_X, bst_S, bst_A, bst_sI, bst_sI0, bst_sC, bst_sY, bst_sE, bI_s, bI_o, bI_2, bI_bI, bC_1, bY_1, bE_1, bT, bN, bR, rf_ref, rf_va, rf_null, c1_int, c1_ref, c1_UV, rvo_n, rvo_r, c1_null, c1_va, up_s, up_o, va_rf_some, va_rf_none, litA, litB, litM, nI_add, okZ_0, okZ_1, okZ_zb, zb_0, gB_add, inb_lit, cl_lit, Nat.lt_irrefl, ↓reduceIte, if_true, if_false, RP_v, RP_n, bst_Tr z0, zT, sK, h0, hb, e1, j1, j2, fo, sV, i24, q1', hz1, sF, he, rvo, hb0, nI_1]
    · intro e he
      refine Eq.trans (by first | exact x126_2 | exact x126_2 (rf_ref _) | exact x126_2 rfl) ?_
      simp [x126_3, x126_4, x126_7, x126_10, x126_13, x126_14, x126_17n, x126_17r, x126_20, x126_21, x126_24, x126_25, x126_26, x126_27, x126_28, x126_29, x126_32, x126_35, x126_38, x126_39, x126_40, x126_41, x126_44, x126_47, x126_50, x126_53, x126_54, x126_57n, x126_57r, x126_60, x126_61, x126_62, x126_63, x126_66, x126_69, x126_72, x126_73, x126_74, x126_77, x126_80, x126_83, x126_84, bst_T0, bst_T, bst_N, bst_I0, bst_I, bst_R0, bst_R, bst_B, bst_X, bst_S, bst_A, bst_sI, bst_sI0, bst_sC, bst_sY, bst_sE, bI_s, bI_o, bI_2, bI_bI, bC_1, bY_1, bE_1, bT, bN, bR, rf_ref, rf_va, rf_null, c1_int, c1_ref, c1_UV, rvo_n, rvo_r, c1_null, c1_va, up_s, up_o, va_rf_some, va_rf_none, litA, litB, litM, nI_add, okZ_0, okZ_1, okZ_zb, zb_0, gB_add, inb_lit, cl_lit, Nat.lt_irrefl, ↓reduceIte, if_true, if_false, RP_v, RP_n, bst_Tr z0, zT, sK, h0]
  have hl' := hl UV rfl
  unfold nxF
  cases e : fst (nxB r n) K with
  | none =>
    rw [e] at hl'
    dsimp only at hl' ⊢
    refine ⟨gR G s.2.2.2.2, s, n, ?_, ?_, rfl, rfl, rfl, Or.inr rfl, fun q hq => by rw [sRr_id] at hq; exact hq⟩
    · rw [sRr_id]
      simp [x126_0, x126_1, bst_T0, bst_T, bst_N, bst_I0, bst_I, bst_R0, bst_R, bst_B, bst_X, bst_S, bst_A, bst_sI, bst_sI0, bst_sC, bst_sY, bst_sE, bI_s, bI_o, bI_2, bI_bI, bC_1, bY_1, bE_1, bT, bN, bR, rf_ref, rf_va, rf_null, c1_int, c1_ref, c1_UV, rvo_n, rvo_r, c1_null, c1_va, up_s, up_o, va_rf_some, va_rf_none, litA, litB, litM, nI_add, okZ_0, okZ_1, okZ_zb, zb_0, gB_add, inb_lit, cl_lit, Nat.lt_irrefl, ↓reduceIte, if_true, if_false, RP_v, RP_n, hl']
    · rw [sRr_id]; exact h'
  | some p =>
    rw [e] at hl'
    dsimp only at hl' ⊢
    obtain ⟨hp, hx, -⟩ := fst_spec e
    obtain ⟨k, hk, ek⟩ := vp_in_of (hR.2.1.1 p hp) (by omega)
    unfold nxB at hx
    rw [Bool.and_eq_true] at hx
    obtain ⟨i, ei⟩ := Option.isSome_iff_exists.mp hx.2
    rw [ei] at hl' ⊢
    dsimp only at hl' ⊢
    obtain ⟨q, w1, w2, w3⟩ := hX.2.2.2.2.2.2 i (fst_spec ei).1
    rw [w1] at hl'
    obtain ⟨s', f1, f2, f3, f4, f5, f6⟩ := s_fetch2 (d := d) (v1 := .int (nI (p + 1))) (v2 := .int (r (10 + p))) hC hR h' hn h0 hN (fst_spec ei).1 w1
    refine ⟨_, s', n - 1, ?_, f2, f3, f4, f5, Or.inl (hQ'.2.2.2.1 (by have := (fst_spec ei).1; omega)), f6⟩
    rw [← f1, ← hl']
    simp [x126_0, x126_1, bst_T0, bst_T, bst_N, bst_I0, bst_I, bst_R0, bst_R, bst_B, bst_X, bst_S, bst_A, bst_sI, bst_sI0, bst_sC, bst_sY, bst_sE, bI_s, bI_o, bI_2, bI_bI, bC_1, bY_1, bE_1, bT, bN, bR, rf_ref, rf_va, rf_null, c1_int, c1_ref, c1_UV, rvo_n, rvo_r, c1_null, c1_va, up_s, up_o, va_rf_some, va_rf_none, litA, litB, litM, nI_add, okZ_0, okZ_1, okZ_zb, zb_0, gB_add, inb_lit, cl_lit, Nat.lt_irrefl, ↓reduceIte, if_true, if_false, RP_v, RP_n]
end

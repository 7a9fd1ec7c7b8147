/-! THE COMPONENT's questions: accounts -/
theorem dd_ok {a b : Int32} (hb : ¬ b = 0) : FP.ddiv (FP.i2d a) (FP.i2d b) &&& 0x7fffffffffffffff ≤ 0x7ff0000000000000 ∧ ¬ FP.Core.decode FP.Core.b64 (FP.ddiv (FP.i2d a) (FP.i2d b)).toNat = .nan := by
  have h0 : ¬ b.toInt = 0 := fun z => hb (by rw [← Int32.toInt_inj]; exact z)
  obtain ⟨s1, c1, q1, e1, o1, -⟩ := fromInt_fin ff64 a.toInt (i32_abs a)
  obtain ⟨s2, c2, q2, e2, o2, -⟩ := fromInt_fin ff64 b.toInt (i32_abs b)
  have hq := okF_quot ff64 (i32_abs a) (i32_abs b) h0
  have k1 : (FP.i2d a).toNat = FP.Core.fromInt FP.Core.b64 a.toInt := by
    show (UInt64.ofNat (FP.Core.encode FP.Core.b64 _)).toNat = _
    rw [UInt64.toNat_ofNat', Nat.mod_eq_of_lt (by rw [e1]; exact (enc64 o1).1)]; rfl
  have k2 : (FP.i2d b).toNat = FP.Core.fromInt FP.Core.b64 b.toInt := by
    show (UInt64.ofNat (FP.Core.encode FP.Core.b64 _)).toNat = _
    rw [UInt64.toNat_ofNat', Nat.mod_eq_of_lt (by rw [e2]; exact (enc64 o2).1)]; rfl
  have hd : FP.ddiv (FP.i2d a) (FP.i2d b) = UInt64.ofNat (FP.Core.encode FP.Core.b64 (FP.Core.quotient FP.Core.b64 (FP.Core.decode FP.Core.b64 (FP.Core.fromInt FP.Core.b64 a.toInt)) (FP.Core.decode FP.Core.b64 (FP.Core.fromInt FP.Core.b64 b.toInt)))) := by
    show UInt64.ofNat (FP.Core.encode FP.Core.b64 (FP.Core.quotient FP.Core.b64 (FP.Core.decode FP.Core.b64 (FP.i2d a).toNat) (FP.Core.decode FP.Core.b64 (FP.i2d b).toNat))) = _
    rw [k1, k2]
  rw [hd]
  obtain ⟨g1, g2⟩ := nn64 hq
  exact ⟨g1, by rw [g2]; exact (dec_enc ff64 hq).1⟩
theorem fd_ok {a b : Int32} (hb : ¬ b = 0) : FP.fdiv (FP.i2f a) (FP.i2f b) &&& 0x7fffffff ≤ 0x7f800000 ∧ ¬ FP.Core.decode FP.Core.b32 (FP.fdiv (FP.i2f a) (FP.i2f b)).toNat = .nan := by
  have h0 : ¬ b.toInt = 0 := fun z => hb (by rw [← Int32.toInt_inj]; exact z)
  obtain ⟨s1, c1, q1, e1, o1, -⟩ := fromInt_fin ff32 a.toInt (i32_abs a)
  obtain ⟨s2, c2, q2, e2, o2, -⟩ := fromInt_fin ff32 b.toInt (i32_abs b)
  have hq := okF_quot ff32 (i32_abs a) (i32_abs b) h0
  have k1 : (FP.i2f a).toNat = FP.Core.fromInt FP.Core.b32 a.toInt := by
    show (UInt32.ofNat (FP.Core.encode FP.Core.b32 _)).toNat = _
    rw [UInt32.toNat_ofNat', Nat.mod_eq_of_lt (by rw [e1]; exact (enc32 o1).1)]; rfl
  have k2 : (FP.i2f b).toNat = FP.Core.fromInt FP.Core.b32 b.toInt := by
    show (UInt32.ofNat (FP.Core.encode FP.Core.b32 _)).toNat = _
    rw [UInt32.toNat_ofNat', Nat.mod_eq_of_lt (by rw [e2]; exact (enc32 o2).1)]; rfl
  have hd : FP.fdiv (FP.i2f a) (FP.i2f b) = UInt32.ofNat (FP.Core.encode FP.Core.b32 (FP.Core.quotient FP.Core.b32 (FP.Core.decode FP.Core.b32 (FP.Core.fromInt FP.Core.b32 a.toInt)) (FP.Core.decode FP.Core.b32 (FP.Core.fromInt FP.Core.b32 b.toInt)))) := by
    show UInt32.ofNat (FP.Core.encode FP.Core.b32 (FP.Core.quotient FP.Core.b32 (FP.Core.decode FP.Core.b32 (FP.i2f a).toNat) (FP.Core.decode FP.Core.b32 (FP.i2f b).toNat))) = _
    rw [k1, k2]
  rw [hd]
  obtain ⟨g1, g2⟩ := nn32 hq
  exact ⟨g1, by rw [g2]; exact (dec_enc ff32 hq).1⟩
theorem f2d_ok {x : UInt32} (h : ¬ FP.Core.decode FP.Core.b32 x.toNat = .nan) : FP.f2d x &&& 0x7fffffffffffffff ≤ 0x7ff0000000000000 ∧ ¬ FP.Core.decode FP.Core.b64 (FP.f2d x).toNat = .nan := by
  have ho := okF_round ff64 h
  obtain ⟨g1, g2⟩ := nn64 ho
  have e : FP.f2d x = UInt64.ofNat (FP.Core.encode FP.Core.b64 (FP.Core.round FP.Core.b64 (FP.Core.decode FP.Core.b32 x.toNat))) := by
    unfold FP.f2d
    have hn : ¬ FP.Core.fIsNaN x = true := by
      show ¬ decide (FP.Core.decode FP.Core.b32 x.toNat = .nan) = true
      rw [decide_eq_false h]; decide
    rw [if_neg hn]; rfl
  rw [e]
  exact ⟨g1, by rw [g2]; exact (dec_enc ff64 ho).1⟩
theorem dcmp_refl {x : UInt64} (h : ¬ FP.Core.decode FP.Core.b64 x.toNat = .nan) : FP.Core.dcmp x x = some .eq := by
  show FP.Core.order (FP.Core.decode FP.Core.b64 x.toNat) (FP.Core.decode FP.Core.b64 x.toNat) = _
  cases e : FP.Core.decode FP.Core.b64 x.toNat with
  | nan => exact absurd e h
  | inf s => unfold FP.Core.order; dsimp only; rw [Int.compare_eq_eq.mpr rfl]
  | fin s c q => unfold FP.Core.order; dsimp only; rw [Int.compare_eq_eq.mpr rfl]
/-- nothing beyond the askers -/
def RX (r : Rw) (A : Nat) : Prop := ∀ a, A ≤ a → a < 8 → r (28 + a) = 0 ∧ r (60 + a) = 0
theorem sm_cut {f : Nat → Int32} {A n : Nat} (h : A ≤ n) (h0 : ∀ a, A ≤ a → a < n → f a = 0) : sm f n = sm f A := by
  induction n with
  | zero => rw [show A = 0 by omega]
  | succ n ih =>
    by_cases e : A = n + 1
    · rw [e]
    · show sm f n + f n = _
      rw [h0 n (by omega) (by omega), Int32.add_zero]
      exact ih (by omega) (fun a h1 h2 => h0 a h1 (by omega))
def mwV (r : Rw) (k : Nat) : UInt64 := if r (68 + k) = 0 then FP.dconst0 else FP.ddiv (FP.i2d (r (73 + k))) (FP.i2d (r (68 + k)))
def shV (r : Rw) (A a : Nat) : UInt32 := if sm (fun a => r (60 + a)) A = 0 then FP.fconst0 else FP.fdiv (FP.i2f (r (60 + a))) (FP.i2f (sm (fun a => r (60 + a)) A))
def wrV (r : Rw) (a : Nat) : Int32 := r (20 + a) - r (28 + a)
def ric (r : Rw) : Nat → Nat
  | 0 => 0
  | k + 1 => if wrV r (ric r k) < wrV r (k + 1) then k + 1 else ric r k
theorem ric_le {r : Rw} (k : Nat) : ric r k ≤ k := by
  induction k with
  | zero => exact Nat.le_refl _
  | succ k ih =>
    unfold ric
    split
    · exact Nat.le_refl _
    · omega
section
variable {d b n x m K A z hn y : Nat} {G : Hp} {s : Bs} {c w r : Rw} {ow : Nat → Nat} {hr : Nat → Rw} {sv : Option Rw}
set_option maxHeartbeats 4000000
set_option maxRecDepth 20000
theorem s_meanWait1 {k : Int32} (hC : CW c w K A) (h : XW ow G x c w K A z b s m r hr hn sv) : XP PP (d + 3) 83 0 [.ref x, .int k] [] G = if irB k 0 (nI K - 1) = true then some (.inl (some (.double (mwV r (cl k)))), G) else thr 23 G := by
  have sc2 := fun d => s_ckKind (d := d) (a := k) hC h
  obtain ⟨hh, hx, hxb, hBB, hOW, hz, hRJ, hXH⟩ := h; subst hz; obtain ⟨i0, ⟨hgb, hS, hoz, h17, hBI, hTY, hBQ⟩, hLB, hbx, hzx, hcx, htx, hZL⟩ := hBB; have hC5 := hC.K5; have hC8 := hC.A8; have hn40 := hRJ.n40; have tx : gT G x = 1 := hx.2.2.2.2.1; have tb : gT G b = 6 := i0.T (j := 0) (by omega); have rb : ∀ k, gR G b k = bR (gA G) b s 0 k := fun k => i0.R (j := 0) (by omega); have ib : ∀ k, gI G b k = s.1 0 k := fun k => i0.I (j := 0) (by omega); have tj : ∀ j, j < 21 → gT G (b + j) = bT j := fun j hj => i0.T hj; have nj : ∀ j, j < 21 → gN G (b + j) = bN j := fun j hj => (i0 j hj).2.1; have ij : ∀ j k, j < 21 → gI G (b + j) k = s.1 j k := fun j k hj => i0.I hj; have rj : ∀ j k, j < 21 → gR G (b + j) k = bR (gA G) b s j k := fun j k hj => i0.R hj; have hS' := hS; have sK := fun d => s_suClassesG (d := d) hS; have sA := fun d => s_suAskersG (d := d) hS; obtain ⟨zT, zR0, zR1, zR2, zR3, zR4, zR5, zR6, zT1, zT2, zT5, zT6, zT7, zN5, zN6, zN7, zK, zA, zW, zc3, zc4, zc5, zc6, zc7⟩ := hS; have zT' := zT
  by_cases q : irB k 0 (nI K - 1) = true
  · rw [if_pos q]
    obtain ⟨k', hk, rfl⟩ := irB_nI hC.1.2.1 (by omega) q
    have j0 : cl (nI k') = k' := nI_clamp (by omega)
    have j1 : inb (nI k') 5 = true := inb_nI (by omega) (by omega)
    have j2 : (nI k').toNatClampNeg = k' := nI_clamp (by omega)
    have e1 := hBI.k10 (p := k') (by omega)
    have e2 := hBI.k11 (p := k') (by omega)
    rw [j0]
    unfold mwV
    by_cases y : r (68 + k') = 0
    · simp [x83_0, x83_1, x83_2, x83_5, x83_6, x83_9, x83_12, x83_13, x83_14, x83_17, x83_18, x83_21, x83_22, x83_25, x83_28, x83_29, x83_30, x83_31, x83_32, x83_35, x83_38, x83_39, x83_40, x83_41, x83_42, bst_T0, bst_T, bst_N, bst_I0, bst_I, bst_R0, bst_R, bst_B, bst_X, bst_S, bst_A, bst_sI, bst_sI0, bst_sC, bst_sY, bst_sE, bI_s, bI_o, bI_2, bI_bI, bC_1, bY_1, bE_1, bT, bN, bR, rf_ref, rf_va, rf_null, c1_int, c1_ref, c1_UV, rvo_n, rvo_r, c1_null, c1_va, up_s, up_o, va_rf_some, va_rf_none, litA, litB, litM, nI_add, okZ_0, okZ_1, okZ_zb, zb_0, gB_add, inb_lit, cl_lit, Nat.lt_irrefl, ↓reduceIte, if_true, if_false, RP_v, RP_n, tx, hxb, tb, rb, ib, tj, nj, ij, rj, sK, sA, zT, zR0, zR1, zR2, zR3, zR4, zR5, zR6, zT1, zT2, zT5, zT6, zT7, zN5, zN6, zN7, zc3, zc4, zc5, zc6, zc7, sc2, q, j1, j2, e1, y]
    · have hd := (dd_ok (a := r (73 + k')) y).1
      simp [x83_0, x83_1, x83_2, x83_5, x83_6, x83_9, x83_12, x83_13, x83_14, x83_17, x83_18, x83_21, x83_22, x83_25, x83_28, x83_29, x83_30, x83_31, x83_32, x83_35, x83_38, x83_39, x83_40, x83_41, x83_42, bst_T0, bst_T, bst_N, bst_I0, bst_I, bst_R0, bst_R, bst_B, bst_X, bst_S, bst_A, bst_sI, bst_sI0, bst_sC, bst_sY, bst_sE, bI_s, bI_o, bI_2, bI_bI, bC_1, bY_1, bE_1, bT, bN, bR, rf_ref, rf_va, rf_null, c1_int, c1_ref, c1_UV, rvo_n, rvo_r, c1_null, c1_va, up_s, up_o, va_rf_some, va_rf_none, litA, litB, litM, nI_add, okZ_0, okZ_1, okZ_zb, zb_0, gB_add, inb_lit, cl_lit, Nat.lt_irrefl, ↓reduceIte, if_true, if_false, RP_v, RP_n, tx, hxb, tb, rb, ib, tj, nj, ij, rj, sK, sA, zT, zR0, zR1, zR2, zR3, zR4, zR5, zR6, zT1, zT2, zT5, zT6, zT7, zN5, zN6, zN7, zc3, zc4, zc5, zc6, zc7, sc2, q, j1, j2, e1, e2, y, hd]
  · rw [if_neg q]
    simp [x83_0, x83_1, x83_2, x83_5, x83_6, x83_9, x83_12, x83_13, x83_14, x83_17, x83_18, x83_21, x83_22, x83_25, x83_28, x83_29, x83_30, x83_31, x83_32, x83_35, x83_38, x83_39, x83_40, x83_41, x83_42, rf_ref, rf_va, rf_null, c1_int, c1_ref, c1_UV, rvo_n, rvo_r, c1_null, c1_va, up_s, up_o, va_rf_some, va_rf_none, litA, litB, litM, nI_add, okZ_0, okZ_1, okZ_zb, zb_0, gB_add, inb_lit, cl_lit, Nat.lt_irrefl, ↓reduceIte, if_true, if_false, RP_v, RP_n, tx, sc2, q, RP_thr (show PP.2.2 83 2 23 = none from rfl)]
theorem s_share1 {a : Int32} (hC : CW c w K A) (h : XW ow G x c w K A z b s m r hr hn sv) (hX : RX r A) : XP PP (d + 3) 84 0 [.ref x, .int a, UV, UV, UV, UV, UV] [] G = if irB a 0 (nI A - 1) = true then some (.inl (some (.float (shV r A (cl a)))), G) else thr 23 G := by
  have sc2 := fun d => s_ckAsker (d := d) (a := a) hC h
  obtain ⟨hh, hx, hxb, hBB, hOW, hz, hRJ, hXH⟩ := h; subst hz; obtain ⟨i0, ⟨hgb, hS, hoz, h17, hBI, hTY, hBQ⟩, hLB, hbx, hzx, hcx, htx, hZL⟩ := hBB; have hC5 := hC.K5; have hC8 := hC.A8; have hn40 := hRJ.n40; have tx : gT G x = 1 := hx.2.2.2.2.1; have tb : gT G b = 6 := i0.T (j := 0) (by omega); have rb : ∀ k, gR G b k = bR (gA G) b s 0 k := fun k => i0.R (j := 0) (by omega); have ib : ∀ k, gI G b k = s.1 0 k := fun k => i0.I (j := 0) (by omega); have tj : ∀ j, j < 21 → gT G (b + j) = bT j := fun j hj => i0.T hj; have nj : ∀ j, j < 21 → gN G (b + j) = bN j := fun j hj => (i0 j hj).2.1; have ij : ∀ j k, j < 21 → gI G (b + j) k = s.1 j k := fun j k hj => i0.I hj; have rj : ∀ j k, j < 21 → gR G (b + j) k = bR (gA G) b s j k := fun j k hj => i0.R hj; have hS' := hS; have sK := fun d => s_suClassesG (d := d) hS; have sA := fun d => s_suAskersG (d := d) hS; obtain ⟨zT, zR0, zR1, zR2, zR3, zR4, zR5, zR6, zT1, zT2, zT5, zT6, zT7, zN5, zN6, zN7, zK, zA, zW, zc3, zc4, zc5, zc6, zc7⟩ := hS; have zT' := zT
  by_cases q : irB a 0 (nI A - 1) = true
  · rw [if_pos q]
    obtain ⟨a', ha, rfl⟩ := irB_nI hC.1.2.2.2.2.1 (by omega) q
    have j0 : cl (nI a') = a' := nI_clamp (by omega)
    have j1 : inb (nI a') 8 = true := inb_nI (by omega) (by omega)
    have j2 : (nI a').toNatClampNeg = a' := nI_clamp (by omega)
    have e1 := hBI.lo (j := 6) (k := a') (by omega) (by omega) (by omega)
    rw [j0]
    have hsum : sm (fun a => r (60 + a)) 8 = sm (fun a => r (60 + a)) A := sm_cut hC8 (fun a h1 h2 => (hX a h1 h2).2)
    have hend : ∀ v6 : Value, XP PP (d + 3) 84 46 [.ref x, .int (nI a'), .int (sm (fun a => r (60 + a)) 8), .ref (b + 6), .int 8, .int 8, v6] [] G = some (.inl (some (.float (shV r A a'))), G) := by
      intro v6
      rw [hsum]
      unfold shV
      by_cases y : sm (fun a => r (60 + a)) A = 0
      · simp [x84_46, x84_47, x84_50, x84_51, x84_54, x84_55, x84_58, x84_61, x84_62, x84_63, x84_64, x84_65, x84_66, x84_67, bst_T0, bst_T, bst_N, bst_I0, bst_I, bst_R0, bst_R, bst_B, bst_X, bst_S, bst_A, bst_sI, bst_sI0, bst_sC, bst_sY, bst_sE, bI_s, bI_o, bI_2, bI_bI, bC_1, bY_1, bE_1, bT, bN, bR, rf_ref, rf_va, rf_null, c1_int, c1_ref, c1_UV, rvo_n, rvo_r, c1_null, c1_va, up_s, up_o, va_rf_some, va_rf_none, litA, litB, litM, nI_add, okZ_0, okZ_1, okZ_zb, zb_0, gB_add, inb_lit, cl_lit, Nat.lt_irrefl, ↓reduceIte, if_true, if_false, RP_v, RP_n, tx, hxb, tb, rb, ib, tj, nj, ij, rj, sK, sA, zT, zR0, zR1, zR2, zR3, zR4, zR5, zR6, zT1, zT2, zT5, zT6, zT7, zN5, zN6, zN7, zc3, zc4, zc5, zc6, zc7, y]
      · have hd := (fd_ok (a := r (60 + a')) y).1
        simp [x84_46, x84_47, x84_50, x84_51, x84_54, x84_55, x84_58, x84_61, x84_62, x84_63, x84_64, x84_65, x84_66, x84_67, bst_T0, bst_T, bst_N, bst_I0, bst_I, bst_R0, bst_R, bst_B, bst_X, bst_S, bst_A, bst_sI, bst_sI0, bst_sC, bst_sY, bst_sE, bI_s, bI_o, bI_2, bI_bI, bC_1, bY_1, bE_1, bT, bN, bR, rf_ref, rf_va, rf_null, c1_int, c1_ref, c1_UV, rvo_n, rvo_r, c1_null, c1_va, up_s, up_o, va_rf_some, va_rf_none, litA, litB, litM, nI_add, okZ_0, okZ_1, okZ_zb, zb_0, gB_add, inb_lit, cl_lit, Nat.lt_irrefl, ↓reduceIte, if_true, if_false, RP_v, RP_n, tx, hxb, tb, rb, ib, tj, nj, ij, rj, sK, sA, zT, zR0, zR1, zR2, zR3, zR4, zR5, zR6, zT1, zT2, zT5, zT6, zT7, zN5, zN6, zN7, zc3, zc4, zc5, zc6, zc7, y, hd, j1, j2, e1]
    have hl := XP_forX (P := PP) (d := d + 3) (y := 84) (pc := 22) 8 (fun e : Value × Nat => c1 e.1 = true) (fun k e => [.ref x, .int (nI a'), .int (sm (fun a => r (60 + a)) k), .ref (b + 6), .int 8, .int (nI k), e.1]) (fun _ => G) (X := some (.inl (some (.float (shV r A a'))), G))
      (by
        intro k hk e he
        have e1 : ¬ (8 : Int32) ≤ nI k := nI_ge (b := 8) hk (by omega)
        have i1 : inb (nI k) 8 = true := inb_nI (by omega) (by omega)
        have i2 : (nI k).toNatClampNeg = k := nI_clamp (by omega)
        have e2 := hBI.lo (j := 6) (k := k) (by omega) (by omega) (by omega)
        refine ⟨(.int (r (60 + k)), 0), rfl, ?_⟩
        have es : sm (fun a => r (60 + a)) (k + 1) = sm (fun a => r (60 + a)) k + r (60 + k) := rfl
        rw [es]
        refine (x84_22).trans ?_
        simp [x84_24, x84_26, x84_29, x84_30, x84_32, x84_33, x84_35, x84_36, x84_38, x84_39, x84_40, x84_43, bst_T0, bst_T, bst_N, bst_I0, bst_I, bst_R0, bst_R, bst_B, bst_X, bst_S, bst_A, bst_sI, bst_sI0, bst_sC, bst_sY, bst_sE, bI_s, bI_o, bI_2, bI_bI, bC_1, bY_1, bE_1, bT, bN, bR, rf_ref, rf_va, rf_null, c1_int, c1_ref, c1_UV, rvo_n, rvo_r, c1_null, c1_va, up_s, up_o, va_rf_some, va_rf_none, litA, litB, litM, nI_add, okZ_0, okZ_1, okZ_zb, zb_0, gB_add, inb_lit, cl_lit, Nat.lt_irrefl, ↓reduceIte, if_true, if_false, RP_v, RP_n, tx, hxb, tb, rb, ib, tj, nj, ij, rj, sK, sA, zT, zR0, zR1, zR2, zR3, zR4, zR5, zR6, zT1, zT2, zT5, zT6, zT7, zN5, zN6, zN7, zc3, zc4, zc5, zc6, zc7, e1, i1, i2, e2, he, nI_1])
      (by
        intro e he
        have e1 : (8 : Int32) ≤ nI 8 := by decide
        have e2 : nI 8 = 8 := rfl
        have hd := hend e.1
        refine (x84_22).trans ?_
        rw [e2]
        rw [← hd]
        simp [x84_24, x84_26, x84_29, x84_30, x84_32, x84_33, x84_35, x84_36, x84_38, x84_39, x84_40, x84_43, rf_ref, rf_va, rf_null, c1_int, c1_ref, c1_UV, rvo_n, rvo_r, c1_null, c1_va, up_s, up_o, va_rf_some, va_rf_none, litA, litB, litM, nI_add, okZ_0, okZ_1, okZ_zb, zb_0, gB_add, inb_lit, cl_lit, Nat.lt_irrefl, ↓reduceIte, if_true, if_false, RP_v, RP_n]) 0 (Nat.zero_le _) (UV, 0) rfl
    have z1 : nI 0 = 0 := rfl
    have z2 : sm (fun a => r (60 + a)) 0 = 0 := rfl
    have z3 : nI 8 = 8 := rfl
    rw [z1, z2] at hl
    simp [x84_0, x84_1, x84_2, x84_5, x84_6, x84_7, x84_8, x84_11, x84_14, x84_15, x84_16, x84_17, x84_19, x84_20, bst_T0, bst_T, bst_N, bst_I0, bst_I, bst_R0, bst_R, bst_B, bst_X, bst_S, bst_A, bst_sI, bst_sI0, bst_sC, bst_sY, bst_sE, bI_s, bI_o, bI_2, bI_bI, bC_1, bY_1, bE_1, bT, bN, bR, rf_ref, rf_va, rf_null, c1_int, c1_ref, c1_UV, rvo_n, rvo_r, c1_null, c1_va, up_s, up_o, va_rf_some, va_rf_none, litA, litB, litM, nI_add, okZ_0, okZ_1, okZ_zb, zb_0, gB_add, inb_lit, cl_lit, Nat.lt_irrefl, ↓reduceIte, if_true, if_false, RP_v, RP_n, tx, hxb, tb, rb, ib, tj, nj, ij, rj, sK, sA, zT, zR0, zR1, zR2, zR3, zR4, zR5, zR6, zT1, zT2, zT5, zT6, zT7, zN5, zN6, zN7, zc3, zc4, zc5, zc6, zc7, sc2, q, z3, hl]
  · rw [if_neg q]
    simp [x84_0, x84_1, x84_2, x84_5, x84_6, x84_7, x84_8, x84_11, x84_14, x84_15, x84_16, x84_17, x84_19, x84_20, x84_22, x84_24, x84_26, x84_29, x84_30, x84_32, x84_33, x84_35, x84_36, x84_38, x84_39, x84_40, x84_43, x84_46, x84_47, x84_50, x84_51, x84_54, x84_55, x84_58, x84_61, x84_62, x84_63, x84_64, x84_65, x84_66, x84_67, rf_ref, rf_va, rf_null, c1_int, c1_ref, c1_UV, rvo_n, rvo_r, c1_null, c1_va, up_s, up_o, va_rf_some, va_rf_none, litA, litB, litM, nI_add, okZ_0, okZ_1, okZ_zb, zb_0, gB_add, inb_lit, cl_lit, Nat.lt_irrefl, ↓reduceIte, if_true, if_false, RP_v, RP_n, tx, sc2, q, RP_thr (show PP.2.2 84 2 23 = none from rfl)]
theorem s_debts1 (hC : CW c w K A) (h : XW ow G x c w K A z b s m r hr hn sv) (hX : RX r A) : XP PP d 49 0 [.ref x, UV, UV, UV, UV, UV] [] G = some (.inl (some (.int (sm (fun a => r (28 + a)) A))), G) := by
  obtain ⟨hh, hx, hxb, hBB, hOW, hz, hRJ, hXH⟩ := h; subst hz; obtain ⟨i0, ⟨hgb, hS, hoz, h17, hBI, hTY, hBQ⟩, hLB, hbx, hzx, hcx, htx, hZL⟩ := hBB; have hC5 := hC.K5; have hC8 := hC.A8; have hn40 := hRJ.n40; have tx : gT G x = 1 := hx.2.2.2.2.1; have tb : gT G b = 6 := i0.T (j := 0) (by omega); have rb : ∀ k, gR G b k = bR (gA G) b s 0 k := fun k => i0.R (j := 0) (by omega); have ib : ∀ k, gI G b k = s.1 0 k := fun k => i0.I (j := 0) (by omega); have tj : ∀ j, j < 21 → gT G (b + j) = bT j := fun j hj => i0.T hj; have nj : ∀ j, j < 21 → gN G (b + j) = bN j := fun j hj => (i0 j hj).2.1; have ij : ∀ j k, j < 21 → gI G (b + j) k = s.1 j k := fun j k hj => i0.I hj; have rj : ∀ j k, j < 21 → gR G (b + j) k = bR (gA G) b s j k := fun j k hj => i0.R hj; have hS' := hS; have sK := fun d => s_suClassesG (d := d) hS; have sA := fun d => s_suAskersG (d := d) hS; obtain ⟨zT, zR0, zR1, zR2, zR3, zR4, zR5, zR6, zT1, zT2, zT5, zT6, zT7, zN5, zN6, zN7, zK, zA, zW, zc3, zc4, zc5, zc6, zc7⟩ := hS; have zT' := zT
  have hsum : sm (fun a => r (28 + a)) 8 = sm (fun a => r (28 + a)) A := sm_cut hC8 (fun a h1 h2 => (hX a h1 h2).1)
  rw [← hsum]
  have hl := XP_forX (P := PP) (d := d) (y := 49) (pc := 16) 8 (fun e : Value × Nat => c1 e.1 = true) (fun k e => [.ref x, .int (sm (fun a => r (28 + a)) k), .ref (b + 2), .int 8, .int (nI k), e.1]) (fun _ => G) (X := some (.inl (some (.int (sm (fun a => r (28 + a)) 8))), G))
    (by
      intro k hk e he
      have e1 : ¬ (8 : Int32) ≤ nI k := nI_ge (b := 8) hk (by omega)
      have i1 : inb (nI k) 8 = true := inb_nI (by omega) (by omega)
      have i2 : (nI k).toNatClampNeg = k := nI_clamp (by omega)
      have e2 := hBI.lo (j := 2) (k := k) (by omega) (by omega) (by omega)
      refine ⟨(.int (r (28 + k)), 0), rfl, ?_⟩
      have es : sm (fun a => r (28 + a)) (k + 1) = sm (fun a => r (28 + a)) k + r (28 + k) := rfl
      rw [es]
      refine (x49_16).trans ?_
      simp [x49_18, x49_19, x49_22, x49_23, x49_25, x49_26, x49_28, x49_29, x49_31, x49_32, x49_33, x49_36, bst_T0, bst_T, bst_N, bst_I0, bst_I, bst_R0, bst_R, bst_B, bst_X, bst_S, bst_A, bst_sI, bst_sI0, bst_sC, bst_sY, bst_sE, bI_s, bI_o, bI_2, bI_bI, bC_1, bY_1, bE_1, bT, bN, bR, rf_ref, rf_va, rf_null, c1_int, c1_ref, c1_UV, rvo_n, rvo_r, c1_null, c1_va, up_s, up_o, va_rf_some, va_rf_none, litA, litB, litM, nI_add, okZ_0, okZ_1, okZ_zb, zb_0, gB_add, inb_lit, cl_lit, Nat.lt_irrefl, ↓reduceIte, if_true, if_false, RP_v, RP_n, tx, hxb, tb, rb, ib, tj, nj, ij, rj, sK, sA, zT, zR0, zR1, zR2, zR3, zR4, zR5, zR6, zT1, zT2, zT5, zT6, zT7, zN5, zN6, zN7, zc3, zc4, zc5, zc6, zc7, e1, i1, i2, e2, he, nI_1])
    (by
      intro e he
      have e1 : (8 : Int32) ≤ nI 8 := by decide
      refine (x49_16).trans ?_
      simp [x49_18, x49_19, x49_22, x49_23, x49_25, x49_26, x49_28, x49_29, x49_31, x49_32, x49_33, x49_36, x49_39, x49_40, rf_ref, rf_va, rf_null, c1_int, c1_ref, c1_UV, rvo_n, rvo_r, c1_null, c1_va, up_s, up_o, va_rf_some, va_rf_none, litA, litB, litM, nI_add, okZ_0, okZ_1, okZ_zb, zb_0, gB_add, inb_lit, cl_lit, Nat.lt_irrefl, ↓reduceIte, if_true, if_false, RP_v, RP_n, e1]) 0 (Nat.zero_le _) (UV, 0) rfl
  have z1 : nI 0 = 0 := rfl
  have z2 : sm (fun a => r (28 + a)) 0 = 0 := rfl
  have z3 : nI 8 = 8 := rfl
  rw [z1, z2] at hl
  simp [x49_0, x49_1, x49_2, x49_3, x49_6, x49_9, x49_10, x49_11, x49_12, x49_13, x49_14, bst_T0, bst_T, bst_N, bst_I0, bst_I, bst_R0, bst_R, bst_B, bst_X, bst_S, bst_A, bst_sI, bst_sI0, bst_sC, bst_sY, bst_sE, bI_s, bI_o, bI_2, bI_bI, bC_1, bY_1, bE_1, bT, bN, bR, rf_ref, rf_va, rf_null, c1_int, c1_ref, c1_UV, rvo_n, rvo_r, c1_null, c1_va, up_s, up_o, va_rf_some, va_rf_none, litA, litB, litM, nI_add, okZ_0, okZ_1, okZ_zb, zb_0, gB_add, inb_lit, cl_lit, Nat.lt_irrefl, ↓reduceIte, if_true, if_false, RP_v, RP_n, tx, hxb, tb, rb, ib, tj, nj, ij, rj, sK, sA, zT, zR0, zR1, zR2, zR3, zR4, zR5, zR6, zT1, zT2, zT5, zT6, zT7, zN5, zN6, zN7, zc3, zc4, zc5, zc6, zc7, z3, hl]
theorem s_richest1 (hC : CW c w K A) (h : XW ow G x c w K A z b s m r hr hn sv) : XP PP (d + 2) 50 0 [.ref x, UV, UV] [] G = some (.inl (some (.int (nI (ric r (A - 1))))), G) := by
  have ss := fun d => s_setup (d := d) hC h
  obtain ⟨hh, hx, hxb, hBB, hOW, hz, hRJ, hXH⟩ := h; subst hz; obtain ⟨i0, ⟨hgb, hS, hoz, h17, hBI, hTY, hBQ⟩, hLB, hbx, hzx, hcx, htx, hZL⟩ := hBB; have hC5 := hC.K5; have hC8 := hC.A8; have hn40 := hRJ.n40; have tx : gT G x = 1 := hx.2.2.2.2.1; have tb : gT G b = 6 := i0.T (j := 0) (by omega); have rb : ∀ k, gR G b k = bR (gA G) b s 0 k := fun k => i0.R (j := 0) (by omega); have ib : ∀ k, gI G b k = s.1 0 k := fun k => i0.I (j := 0) (by omega); have tj : ∀ j, j < 21 → gT G (b + j) = bT j := fun j hj => i0.T hj; have nj : ∀ j, j < 21 → gN G (b + j) = bN j := fun j hj => (i0 j hj).2.1; have ij : ∀ j k, j < 21 → gI G (b + j) k = s.1 j k := fun j k hj => i0.I hj; have rj : ∀ j k, j < 21 → gR G (b + j) k = bR (gA G) b s j k := fun j k hj => i0.R hj; have hS' := hS; have sK := fun d => s_suClassesG (d := d) hS; have sA := fun d => s_suAskersG (d := d) hS; obtain ⟨zT, zR0, zR1, zR2, zR3, zR4, zR5, zR6, zT1, zT2, zT5, zT6, zT7, zN5, zN6, zN7, zK, zA, zW, zc3, zc4, zc5, zc6, zc7⟩ := hS; have zT' := zT
  have h1A := hC.1.2.2.2.2.1
  have hl := XP_for (P := PP) (d := d + 2) (y := 50) (pc := 4) (A - 1) (fun k => [.ref x, .int (nI (ric r k)), .int (nI (k + 1))]) (fun _ => G) (X := some (.inl (some (.int (nI (ric r (A - 1))))), G))
    (by
      intro k hk
      have e1 : ¬ nI A ≤ nI (k + 1) := nI_ge (by omega) (by omega)
      have i1 : inb (nI (k + 1)) 8 = true := inb_nI (by omega) (by omega)
      have i2 : (nI (k + 1)).toNatClampNeg = k + 1 := nI_clamp (by omega)
      have hle := ric_le (r := r) k
      have i3 : inb (nI (ric r k)) 8 = true := inb_nI (by omega) (by omega)
      have i4 : (nI (ric r k)).toNatClampNeg = ric r k := nI_clamp (by omega)
      have e2 := hBI.lo (j := 1) (k := k + 1) (by omega) (by omega) (by omega)
      have e3 := hBI.lo (j := 2) (k := k + 1) (by omega) (by omega) (by omega)
      have e4 := hBI.lo (j := 1) (k := ric r k) (by omega) (by omega) (by omega)
      have e5 := hBI.lo (j := 2) (k := ric r k) (by omega) (by omega) (by omega)
      have es : ric r (k + 1) = if wrV r (ric r k) < wrV r (k + 1) then k + 1 else ric r k := rfl
      rw [es]
      unfold wrV
      refine (x50_4).trans ?_
      by_cases y : r (20 + ric r k) - r (28 + ric r k) < r (20 + (k + 1)) - r (28 + (k + 1))
      · simp [x50_5, x50_6, x50_9, x50_12, x50_15, x50_16, x50_19, x50_22, x50_23, x50_24, x50_25, x50_28, x50_31, x50_32, x50_33, x50_34, x50_35, x50_38, x50_41, x50_42, x50_43, x50_44, x50_47, x50_50, x50_51, x50_52, x50_53, x50_56, x50_57, x50_58, x50_61, bst_T0, bst_T, bst_N, bst_I0, bst_I, bst_R0, bst_R, bst_B, bst_X, bst_S, bst_A, bst_sI, bst_sI0, bst_sC, bst_sY, bst_sE, bI_s, bI_o, bI_2, bI_bI, bC_1, bY_1, bE_1, bT, bN, bR, rf_ref, rf_va, rf_null, c1_int, c1_ref, c1_UV, rvo_n, rvo_r, c1_null, c1_va, up_s, up_o, va_rf_some, va_rf_none, litA, litB, litM, nI_add, okZ_0, okZ_1, okZ_zb, zb_0, gB_add, inb_lit, cl_lit, Nat.lt_irrefl, ↓reduceIte, if_true, if_false, RP_v, RP_n, tx, hxb, tb, rb, ib, tj, nj, ij, rj, sK, sA, zT, zR0, zR1, zR2, zR3, zR4, zR5, zR6, zT1, zT2, zT5, zT6, zT7, zN5, zN6, zN7, zc3, zc4, zc5, zc6, zc7, ss, e1, i1, i2, i3, i4, e2, e3, e4, e5, y, Int32.not_le.mpr y, nI_1]
      · simp [x50_5, x50_6, x50_9, x50_12, x50_15, x50_16, x50_19, x50_22, x50_23, x50_24, x50_25, x50_28, x50_31, x50_32, x50_33, x50_34, x50_35, x50_38, x50_41, x50_42, x50_43, x50_44, x50_47, x50_50, x50_51, x50_52, x50_53, x50_56, x50_57, x50_58, x50_61, bst_T0, bst_T, bst_N, bst_I0, bst_I, bst_R0, bst_R, bst_B, bst_X, bst_S, bst_A, bst_sI, bst_sI0, bst_sC, bst_sY, bst_sE, bI_s, bI_o, bI_2, bI_bI, bC_1, bY_1, bE_1, bT, bN, bR, rf_ref, rf_va, rf_null, c1_int, c1_ref, c1_UV, rvo_n, rvo_r, c1_null, c1_va, up_s, up_o, va_rf_some, va_rf_none, litA, litB, litM, nI_add, okZ_0, okZ_1, okZ_zb, zb_0, gB_add, inb_lit, cl_lit, Nat.lt_irrefl, ↓reduceIte, if_true, if_false, RP_v, RP_n, tx, hxb, tb, rb, ib, tj, nj, ij, rj, sK, sA, zT, zR0, zR1, zR2, zR3, zR4, zR5, zR6, zT1, zT2, zT5, zT6, zT7, zN5, zN6, zN7, zc3, zc4, zc5, zc6, zc7, ss, e1, i1, i2, i3, i4, e2, e3, e4, e5, y, Int32.not_lt.mp y, nI_1])
    (by
      have e1 : nI A ≤ nI (A - 1 + 1) := by rw [show A - 1 + 1 = A by omega]; exact Int32.le_refl _
      refine (x50_4).trans ?_
      simp [x50_5, x50_6, x50_9, x50_12, x50_15, x50_16, x50_19, x50_22, x50_23, x50_24, x50_25, x50_28, x50_31, x50_32, x50_33, x50_34, x50_35, x50_38, x50_41, x50_42, x50_43, x50_44, x50_47, x50_50, x50_51, x50_52, x50_53, x50_56, x50_57, x50_58, x50_61, x50_64, x50_65, bst_T0, bst_T, bst_N, bst_I0, bst_I, bst_R0, bst_R, bst_B, bst_X, bst_S, bst_A, bst_sI, bst_sI0, bst_sC, bst_sY, bst_sE, bI_s, bI_o, bI_2, bI_bI, bC_1, bY_1, bE_1, bT, bN, bR, rf_ref, rf_va, rf_null, c1_int, c1_ref, c1_UV, rvo_n, rvo_r, c1_null, c1_va, up_s, up_o, va_rf_some, va_rf_none, litA, litB, litM, nI_add, okZ_0, okZ_1, okZ_zb, zb_0, gB_add, inb_lit, cl_lit, Nat.lt_irrefl, ↓reduceIte, if_true, if_false, RP_v, RP_n, tx, hxb, tb, rb, ib, tj, nj, ij, rj, sK, sA, zT, zR0, zR1, zR2, zR3, zR4, zR5, zR6, zT1, zT2, zT5, zT6, zT7, zN5, zN6, zN7, zc3, zc4, zc5, zc6, zc7, ss, e1]) 0 (Nat.zero_le _)
  have z1 : nI (ric r 0) = 0 := rfl
  have z2 : nI (0 + 1) = 1 := rfl
  rw [z1, z2] at hl
  simp [x50_0, x50_1, x50_2, x50_3, rf_ref, rf_va, rf_null, c1_int, c1_ref, c1_UV, rvo_n, rvo_r, c1_null, c1_va, up_s, up_o, va_rf_some, va_rf_none, litA, litB, litM, nI_add, okZ_0, okZ_1, okZ_zb, zb_0, gB_add, inb_lit, cl_lit, Nat.lt_irrefl, ↓reduceIte, if_true, if_false, RP_v, RP_n, hl]
end

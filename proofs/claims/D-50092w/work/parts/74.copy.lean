/-! the component: a bus is copied -/
theorem rvo_va (q : Option Nat) : rvo (va_rf q) = q := by cases q <;> rfl
theorem cpy_lt {f g : Rw} {n k : Nat} (h : k < n) : va_cpy f g 0 0 n k = f k := by
  unfold va_cpy
  rw [if_pos (by omega), show 0 + (k - 0) = k by omega]
/-- all of a bus -/
def BB (G : Hp) (b : Nat) (s : Bs) (c w r : Rw) (K A m : Nat) : Prop := isB G b s ∧ BS G b s c w r K A m ∧ (EL G s.2.2.2.2 ∧ s.2.2.2.2 < gX G) ∧ b + 21 ≤ gX G ∧ s.2.1 + 8 ≤ gX G ∧ (∀ q, RS G s m q → q < gX G) ∧ s.2.2.1 < gX G ∧ ∃ ez mz, LSq G (s.2.1 + 4) ez mz
/-- what a making of a bus takes for granted -/
def C23 (G : Hp) : Prop := gA G 23 < gB G ∧ gT G (gA G 23) = 110 ∧ gN G (gA G 23) = 0
section
variable {d b b' n x y m K A : Nat} {G : Hp} {s t : Bs} {c w r : Rw}
set_option maxHeartbeats 4000000
set_option maxRecDepth 20000
theorem s_take (h1 : gT G x = 100) (h2 : gT G y = 100) (h3 : gN G y ≤ gN G x) (h4 : gN G y ≤ 1000) (hb : gB G ≤ y) : XP PP d 121 0 [.ref x, .ref y] [] (G) = some (.inl (none), sIr G y (va_cpy (gI G x) (gI G y) 0 0 (gN G y))) := by
  have j1 : (nI (gN G y)).toNatClampNeg = gN G y := nI_clamp (by omega)
  have k2 := n_nlt (x := gN G y) (by omega)
  have hc : cpOK G y x 0 0 (nI (gN G y)) = true := by
    unfold cpOK
    rw [j1, h1, h2]
    simp [k2, hb, h3]
  simp [x121_0, x121_1, x121_2, x121_3, x121_4, x121_5, x121_9, x121_6, rf_ref, rf_va, rf_null, c1_int, c1_ref, c1_UV, rvo_n, rvo_r, c1_null, c1_va, up_s, up_o, va_rf_some, va_rf_none, litA, litB, litM, nI_add, okZ_0, okZ_1, okZ_zb, zb_0, gB_add, inb_lit, cl_lit, Nat.lt_irrefl, ↓reduceIte, if_true, if_false, RP_v, RP_n, h2, hc, j1]
/-- the source is read in the copy's heap -/
def srcB (G : Hp) (b b' : Nat) (s : Bs) : Prop := ∀ j, j < 21 → inB b' (b + j) = false ∧ gT G (b + j) = bT j ∧ gN G (b + j) = bN j ∧ gI G (b + j) = s.1 j ∧ ∀ k, gR G (b + j) k = bR (gA G) b s j k
def bcp (s t : Bs) (j : Nat) : Bs := bI t j (va_cpy (s.1 j) (t.1 j) 0 0 (bN j))
theorem s_takeB {j : Nat} (hs : srcB G b b' s) (h1 : 1 ≤ j) (h2 : j ≤ 12) (hb : gB G ≤ b') : XP PP d 121 0 [.ref (b + j), .ref (b' + j)] [] (bst G b' t) = some (.inl (none), bst G b' (bcp s t j)) := by
  obtain ⟨q1, q2, q3, q4, -⟩ := hs j (by omega)
  have hT : bT j = 100 := by
    rcases (by omega : j = 1 ∨ j = 2 ∨ j = 3 ∨ j = 4 ∨ j = 5 ∨ j = 6 ∨ j = 7 ∨ j = 8 ∨ j = 9 ∨ j = 10 ∨ j = 11 ∨ j = 12) with rfl | rfl | rfl | rfl | rfl | rfl | rfl | rfl | rfl | rfl | rfl | rfl <;> rfl
  have hN : bN j ≤ 1000 := by
    rcases (by omega : j = 1 ∨ j = 2 ∨ j = 3 ∨ j = 4 ∨ j = 5 ∨ j = 6 ∨ j = 7 ∨ j = 8 ∨ j = 9 ∨ j = 10 ∨ j = 11 ∨ j = 12) with rfl | rfl | rfl | rfl | rfl | rfl | rfl | rfl | rfl | rfl | rfl | rfl <;> decide
  have e := s_take (d := d) (G := bst G b' t) (x := b + j) (y := b' + j) (by rw [bst_Tr q1, q2, hT]) (by rw [bst_T (by omega), hT]) (by rw [bst_Nr q1, q3, bst_N (by omega)]; exact Nat.le_refl _) (by rw [bst_N (by omega)]; exact hN) (by rw [bst_B]; omega)
  rw [bst_N (by omega), bst_Irr q1, q4, bst_Irow (by omega), bst_sIr (by omega)] at e
  exact e
theorem srcB.T {j : Nat} (hs : srcB G b b' s) (h : j < 21) : gT (bst G b' t) (b + j) = bT j := by rw [bst_Tr (hs j h).1]; exact (hs j h).2.1
theorem srcB.I {j k : Nat} (hs : srcB G b b' s) (h : j < 21) : gI (bst G b' t) (b + j) k = s.1 j k := by rw [bst_Ir (hs j h).1]; exact congrFun (hs j h).2.2.2.1 k
theorem srcB.R {j k : Nat} (hs : srcB G b b' s) (h : j < 21) : gR (bst G b' t) (b + j) k = bR (gA G) b s j k := by rw [bst_Rr (hs j h).1]; exact (hs j h).2.2.2.2 k
def bcA (s t : Bs) (n : Nat) : Bs := (fun j k => if 1 ≤ j ∧ j ≤ n then va_cpy (s.1 j) (t.1 j) 0 0 (bN j) k else t.1 j k, t.2)
theorem bcA_0 : bcA s t 0 = t := by
  unfold bcA
  refine Prod.ext (funext fun j => funext fun k => ?_) rfl
  exact if_neg (by omega)
theorem bcA_k (j : Nat) : bcp s (bcA s t j) (j + 1) = bcA s t (j + 1) := by
  unfold bcp bI bcA upr
  refine Prod.ext (funext fun i => funext fun k => ?_) rfl
  dsimp only
  by_cases e : i = j + 1
  · subst e
    rw [if_pos rfl, if_pos (by omega)]
    congr 1
    funext k
    exact if_neg (by omega)
  · rw [if_neg e]
    by_cases e2 : 1 ≤ i ∧ i ≤ j
    · rw [if_pos e2, if_pos (by omega)]
    · rw [if_neg e2, if_neg (by omega)]
theorem s_copyB (hs : srcB G b b' s) (hb : gB G ≤ b') : XP PP (d + 7) 120 16 [.ref b, .ref b'] [] (bst G b' t) = XP PP (d + 7) 120 148 [.ref b, .ref b'] [] (bst G b' (bcA s t 12)) := by
  have hT : ∀ t, gT (bst G b' t) b = 6 := fun t => hs.T (j := 0) (by omega)
  have hR : ∀ t k, gR (bst G b' t) b k = bR (gA G) b s 0 k := fun t k => hs.R (j := 0) (by omega)
  have st := fun d t j h1 h2 => s_takeB (d := d) (t := t) (j := j) hs h1 h2 hb
  have t1 := fun d t => st d t 1 (by omega) (by omega)
  have t2 := fun d t => st d t 2 (by omega) (by omega)
  have t3 := fun d t => st d t 3 (by omega) (by omega)
  have t4 := fun d t => st d t 4 (by omega) (by omega)
  have t5 := fun d t => st d t 5 (by omega) (by omega)
  have t6 := fun d t => st d t 6 (by omega) (by omega)
  have t7 := fun d t => st d t 7 (by omega) (by omega)
  have t8 := fun d t => st d t 8 (by omega) (by omega)
  have t9 := fun d t => st d t 9 (by omega) (by omega)
  have t10 := fun d t => st d t 10 (by omega) (by omega)
  have t11 := fun d t => st d t 11 (by omega) (by omega)
  have t12 := fun d t => st d t 12 (by omega) (by omega)
  have a1 : bcp s t 1 = bcA s t 1 := by have := bcA_k (s := s) (t := t) 0; rw [bcA_0] at this; exact this
  have a2 : bcp s (bcA s t 1) 2 = bcA s t 2 := bcA_k 1
  have a3 : bcp s (bcA s t 2) 3 = bcA s t 3 := bcA_k 2
  have a4 : bcp s (bcA s t 3) 4 = bcA s t 4 := bcA_k 3
  have a5 : bcp s (bcA s t 4) 5 = bcA s t 5 := bcA_k 4
  have a6 : bcp s (bcA s t 5) 6 = bcA s t 6 := bcA_k 5
  have a7 : bcp s (bcA s t 6) 7 = bcA s t 7 := bcA_k 6
  have a8 : bcp s (bcA s t 7) 8 = bcA s t 8 := bcA_k 7
  have a9 : bcp s (bcA s t 8) 9 = bcA s t 9 := bcA_k 8
  have a10 : bcp s (bcA s t 9) 10 = bcA s t 10 := bcA_k 9
  have a11 : bcp s (bcA s t 10) 11 = bcA s t 11 := bcA_k 10
  have a12 : bcp s (bcA s t 11) 12 = bcA s t 12 := bcA_k 11
  simp [x120_16, x120_17, x120_20, x120_21, x120_24, x120_27, x120_28, x120_31, x120_32, x120_35, x120_38, x120_39, x120_42, x120_43, x120_46, x120_49, x120_50, x120_53, x120_54, x120_57, x120_60, x120_61, x120_64, x120_65, x120_68, x120_71, x120_72, x120_75, x120_76, x120_79, x120_82, x120_83, x120_86, x120_87, x120_90, x120_93, x120_94, x120_97, x120_98, x120_101, x120_104, x120_105, x120_108, x120_109, x120_112, x120_115, x120_116, x120_119, x120_120, x120_123, x120_126, x120_127, x120_130, x120_131, x120_134, x120_137, x120_138, x120_141, x120_142, x120_145, bst_T0, bst_T, bst_N, bst_I0, bst_I, bst_R0, bst_R, bst_B, bst_X, bst_S, bst_A, bst_sI, bst_sI0, bst_sC, bst_sY, bst_sE, bI_s, bI_o, bI_2, bI_bI, bC_1, bY_1, bE_1, bT, bN, bR, rf_ref, rf_va, rf_null, c1_int, c1_ref, c1_UV, rvo_n, rvo_r, c1_null, c1_va, up_s, up_o, va_rf_some, va_rf_none, litA, litB, litM, nI_add, okZ_0, okZ_1, okZ_zb, zb_0, gB_add, inb_lit, cl_lit, Nat.lt_irrefl, ↓reduceIte, if_true, if_false, RP_v, RP_n, hT, hR, t1, t2, t3, t4, t5, t6, t7, t8, t9, t10, t11, t12, a1, a2, a3, a4, a5, a6, a7, a8, a9, a10, a11, a12]
def clB (t : Bs) : Bs := bI t 13 (va_up (va_up (t.1 13) 0 (t.1 13 0 + 1)) 2 0)
theorem s_clearB (hb : gB G ≤ b') (hal : AL (bst G b' t) (b' + 13) t.2.2.2.2 n) (hE : EL (bst G b' t) t.2.2.2.2) (ho : inB b' t.2.2.2.2 = false) (hn : n ≤ 60) :
    XP PP d 324 0 [.ref (b' + 13), UV, UV, UV] [] (bst G b' t) = some (.inl (none), bst (sRr G t.2.2.2.2 (nnF (gR G t.2.2.2.2) n)) b' (clB t)) := by
  have h := s_alClear (d := d) hal hE (by rw [bst_B]; omega) hn
  rw [bst_I (j := 13) (by omega), bst_sI (j := 13) (by omega), bst_sI (j := 13) (by omega), bI_s, bI_bI, bst_Rrr ho, bst_sRro ho] at h
  exact h
theorem Fr_clB {P : Nat → Prop} {e n : Nat} {G : Hp} (h : (e = gA G 23 ∧ n = 0) ∨ P e) : Fr P 0 0 G (sRr G e (nnF (gR G e) n)) := by
  rcases h with ⟨-, rfl⟩ | h
  · rw [nnF_0, sRr_id]; exact Fr.refl
  · exact (Fr_sRr (G := G) (a := e)).mono (fun a _ z => by rw [z]; exact h) (Nat.le_refl _) (Nat.le_refl _)
theorem BB.OKE (h : BB G b s c w r K A m) : OKE G s.2.2.2.2 m := fun k hk => by
  obtain ⟨-, ⟨-, -, -, -, -, -, hQ⟩, -, -, -, hcx, -⟩ := h
  have hq : ∃ q i, gR G s.2.2.2.2 k = some q ∧ RQ G q r i := by
    rcases hQ.2.2.2.2.2.2 with ⟨-, -, -, d4⟩ | ⟨-, i, -, -, -, -, -, -, -, d8⟩
    · obtain ⟨q, g1, g2, g3⟩ := d4 k hk
      exact ⟨q, k, g1, g3⟩
    · obtain ⟨q, g1, g2, g3⟩ := d8 k hk
      exact ⟨q, _, g1, g3⟩
  obtain ⟨q, i, g1, g3⟩ := hq
  rw [g1]
  exact ⟨by rw [g3.1]; rfl, hcx q (Or.inr ⟨k, hk, g1⟩)⟩
theorem s_copy0 {ez mz : Nat} (hC : CW c w K A) (hL : CLM G) (h23 : C23 G) (hR : RJ r K A) (h : BB G b s c w r K A m) (hl : LSq G (s.2.1 + 4) ez mz) :
    ∃ G' s', XP PP (d + 7) 120 0 [.ref b, UV] [] G = some (.inl (some (.ref (gX G))), G') ∧ Fr (fun _ => False) 25 883 G G' ∧ isB G' (gX G) s' ∧ (∀ j k, 1 ≤ j → j ≤ 12 → k < bN j → s'.1 j k = s.1 j k) ∧ (∀ k, 18 ≤ k → k ≤ 25 → s'.1 0 k = s.1 0 k) ∧ s'.1 17 3 = nI K ∧ s'.1 13 2 = nI m ∧
      s'.2.1 = s.2.1 ∧ s'.2.2.1 = s.2.2.1 ∧ s'.2.2.2.1 = s.2.2.2.1 ∧ LB G' s'.2.2.2.2 ∧ AL G' (gX G + 13) s'.2.2.2.2 m ∧ (∀ k, k < m → gR G' s'.2.2.2.2 k = gR G s.2.2.2.2 k) ∧ (s'.2.2.2.2 = gA G 23 ∨ gX G ≤ s'.2.2.2.2) ∧ gX G + 21 ≤ gX G' := by
  have hOKE := h.OKE
  obtain ⟨i0, ⟨hb, hS, hoz, h17, hI, hTy, hQ⟩, hLB, hbx, hzx, hcx, htx, -⟩ := h
  have hbX : gB G ≤ gX G := by omega
  obtain ⟨G1, s1, r1, f1, i1, n1, e11, e12, e13, lb1, al1, -, o1, x1⟩ := s_ctor (d := d) (ty := s.2.2.1) hbX hzx hS hL h23 hl
  obtain ⟨b', hb'⟩ : ∃ b', b' = gX G := ⟨_, rfl⟩
  rw [← hb'] at r1 i1 al1 o1 x1 ⊢
  have hsrc : srcB G1 b b' s := fun j hj => by
    have hsm := f1.s (a := b + j) (by omega) id
    have hA : gA G1 = gA G := funext fun i => f1.A i
    exact ⟨inB_f.mpr (Or.inl (by omega)), hsm.1.trans (i0.T hj), hsm.2.1.trans (i0 j hj).2.1, funext fun k => (hsm.2.2.1 k).trans (i0.I hj), fun k => (hsm.2.2.2.2 k).trans (by rw [hA]; exact i0.R hj)⟩
  have tb : gT G b = 6 := i0.T (j := 0) (by omega)
  have rb0 : gR G b 0 = some s.2.1 := i0.R (j := 0) (by omega)
  have rb16 : gR G b 16 = some s.2.2.1 := i0.R (j := 0) (by omega)
  have hne : ¬ b = b' := by omega
  have pA : XP PP (d + 7) 120 0 [.ref b, UV] [] G = XP PP (d + 7) 120 16 [.ref b, .ref b'] [] G1 := by
    have q1 : gT (nw G 6 26) b = 6 := (nv_T (by omega)).trans tb
    have q2 : gR (nw G 6 26) b 0 = some s.2.1 := (nv_R (by omega)).trans rb0
    have q3 : gR (nw G 6 26) b 16 = some s.2.2.1 := (nv_R (by omega)).trans rb16
    simp [x120_0, x120_3, x120_4, x120_5, x120_8, x120_9, x120_12, x120_15, rf_ref, rf_va, rf_null, c1_int, c1_ref, c1_UV, rvo_n, rvo_r, c1_null, c1_va, up_s, up_o, va_rf_some, va_rf_none, litA, litB, litM, nI_add, okZ_0, okZ_1, okZ_zb, zb_0, gB_add, inb_lit, cl_lit, Nat.lt_irrefl, ↓reduceIte, if_true, if_false, RP_v, RP_n, q1, q2, q3, ← hb', r1]
  have hb1 : gB G1 ≤ b' := by rw [f1.B]; omega
  have pB := s_copyB (d := d) (t := s1) hsrc hb1
  rw [isB_bst i1] at pB
  obtain ⟨t, ht⟩ : ∃ t, t = bcA s s1 12 := ⟨_, rfl⟩
  rw [← ht] at pB
  have te : t.2 = s1.2 := by rw [ht]; rfl
  have to : inB b' s1.2.2.2.2 = false := i1.o lb1.1.1
  have to' : inB b' t.2.2.2.2 = false := by rw [te]; exact to
  have t13 : t.1 13 2 = nI mz := by rw [ht]; exact n1.2.2.2.2.2.2.2.2
  have hE1 : EL (bst G1 b' t) t.2.2.2.2 := by rw [te]; exact lb1.1.of rfl (bst_Tr to) (bst_Nr to)
  have hal1 : AL (bst G1 b' t) (b' + 13) t.2.2.2.2 mz := by
    obtain ⟨-, -, -, a4, a5, a6⟩ := al1
    exact ⟨bst_T (j := 13) (by omega), bst_R (j := 13) (by omega), by rw [bst_I (j := 13) (by omega)]; exact t13, by rw [bst_Tr to', te]; exact a4, by rw [bst_Nr to', te]; exact a5, a6⟩
  have hmz : mz ≤ 40 := hl.2.2.2.1
  have pC := fun d => s_clearB (d := d) hb1 hal1 hE1 to' (show mz ≤ 60 by omega)
  obtain ⟨G2, hG2⟩ : ∃ G2, G2 = sRr G1 t.2.2.2.2 (nnF (gR G1 t.2.2.2.2) mz) := ⟨_, rfl⟩
  rw [← hG2] at pC
  have hcl : (t.2.2.2.2 = gA G1 23 ∧ mz = 0) ∨ (gX G ≤ t.2.2.2.2) := by
    rw [te]
    rcases o1 with o | o
    · left
      refine ⟨o.trans (f1.A 23).symm, ?_⟩
      obtain ⟨-, -, -, -, a5, -⟩ := al1
      have hN : gN G1 s1.2.2.2.2 = 0 := by rw [o, (f1.s (a := gA G 23) (by have := h23.1; omega) id).2.1]; exact h23.2.2
      omega
    · right; omega
  have f2 : Fr (fun q => gX G ≤ q) 0 0 G1 G2 := by rw [hG2]; exact Fr_clB hcl
  have f12 : Fr (fun _ => False) 23 723 G G2 := (f1.trans f2).mono (fun a ha z => by
    rcases z with z | z
    · exact z
    · omega) (by omega) (by omega)
  have hX2 : b' + 21 ≤ gX G2 := by have := f2.2.1; omega
  obtain ⟨s3, hs3⟩ : ∃ s3, s3 = clB t := ⟨_, rfl⟩
  rw [← hs3] at pC
  have s3e : s3.2 = s1.2 := by rw [hs3]; exact te
  have s3o : inB b' s3.2.2.2.2 = false := by rw [s3e]; exact to
  have s3n : s3.1 13 2 = 0 := by rw [hs3]; unfold clB; rw [bI_s, up_s]
  have hsm : ∀ a, a < gX G → sameC G (bst G2 b' s3) a := fun a ha => (f12.s ha id).trans (sameC_bst (inB_f.mpr (Or.inl (by omega))))
  have hkX : gX G ≤ gX (bst G2 b' s3) := f12.2.1
  have hLB2 : LB (bst G2 b' s3) s3.2.2.2.2 := by
    rw [s3e]
    obtain ⟨q1, q2, q3⟩ := lb1
    have hT : ∀ q, gT (bst G2 b' s3) q = gT G1 q := fun q => by
      by_cases y : inB b' q = true
      · have y' := y
        unfold inB at y'
        simp only [Bool.and_eq_true, decide_eq_true_eq] at y'
        obtain ⟨j, hj⟩ : ∃ j, q = b' + j := ⟨q - b', by omega⟩
        subst hj
        rw [bst_T (by omega), i1.T (by omega)]
      · rw [Bool.not_eq_true] at y
        rw [bst_Tr y, hG2]; rfl
    have hN : gN (bst G2 b' s3) s1.2.2.2.2 = gN G1 s1.2.2.2.2 := by rw [bst_Nr to, hG2]; rfl
    have hX : gX (bst G2 b' s3) = gX G1 := by rw [bst_X, hG2]; rfl
    refine ⟨q1.of (by rw [hG2]; rfl) (hT _) hN, fun k hk => ?_, by rw [hX]; exact q3⟩
    rw [hN] at hk
    have hrr : gR (bst G2 b' s3) s1.2.2.2.2 k = nnF (gR G1 s1.2.2.2.2) mz k := by rw [bst_Rr to, hG2, te, sRr_s]
    rw [hrr]
    unfold nnF
    by_cases y : k < mz
    · rw [if_pos y]; trivial
    · rw [if_neg y]
      have := q2 k hk
      cases hq : gR G1 s1.2.2.2.2 k with
      | none => trivial
      | some q => rw [hq] at this; exact ⟨by rw [hT]; exact this.1, by have := this.2; rw [hX] at *; exact this⟩
  have hm40 : m ≤ 40 := hQ.2.2.2.2.2.1
  have hmN : m ≤ gN G s.2.2.2.2 := hQ.2.2.1
  have hLS : LSq (bst G2 b' s3) (b + 13) s.2.2.2.2 m := by
    have ha := hsm (b + 13) (by omega)
    have he := hsm s.2.2.2.2 hLB.2
    refine ⟨⟨ha.1.trans (i0.T (j := 13) (by omega)), (ha.2.2.2.2 1).trans (i0.R (j := 13) (by omega)), (ha.2.2.1 2).trans ((i0.I (j := 13) (by omega)).trans hQ.2.2.2.2.1), he.1.trans hLB.1.1, by rw [he.2.1]; exact hmN, by omega⟩, hLB.1.of f12.1 he.1 he.2.1, ?_, hm40, by omega, by have := hLB.2; omega⟩
    exact hOKE.of hkX he.2.2.2.2 (fun q hq => (hsm q hq).1)
  obtain ⟨v, G3, e', f, pD, f3, i3, g3, lb3, al3, rr3, o3⟩ := s_addB (d := d + 3) (by rw [f12.B]; omega) hX2 s3n s3o hLB2 hLS (by rw [f12.A, f12.B]; exact h23.1)
  have f123 : Fr (fun _ => False) 25 883 G G3 := by
    have f12' : Fr (fun _ => False) 23 723 G (bst G2 b' s3) := ⟨f12.1, f12.2.1, f12.2.2.1, f12.2.2.2.1, f12.2.2.2.2.1, fun a ha _ => hsm a ha⟩
    refine (f12'.trans f3).mono (fun a ha z => ?_) (by omega) (by omega)
    rcases z with z | z | z
    · exact z
    · omega
    · rw [s3e] at z
      rcases o1 with o | o
      · rw [o] at z
        have := z.2
        have := h23.1
        have := f12.B
        omega
      · omega
  obtain ⟨s4, hs4⟩ : ∃ s4, s4 = bE (bI s3 13 f) e' := ⟨_, rfl⟩
  rw [← hs4] at i3
  have t3 : gT G3 b' = 6 := i3.T (j := 0) (by omega)
  have s4b : gT G3 b = 6 := (f123.s (by omega) id).1.trans tb
  have i3b : ∀ k, gI G3 b k = s.1 0 k := fun k => ((f123.s (by omega) id).2.2.1 k).trans (i0.I (j := 0) (by omega))
  have r3b : gR G3 b 17 = s.2.2.2.1 := ((f123.s (by omega) id).2.2.2.2 17).trans (i0.R (j := 0) (by omega))
  have ob : inB b' b = false := inB_f.mpr (Or.inl (by omega))
  have hb3 : gB G3 ≤ b' := by rw [f123.B]; omega
  obtain ⟨s5, hs5⟩ : ∃ s5, s5 = bI (bC s4 s.2.2.2.1) 0 (va_up (va_up (va_up (va_up (va_up (va_up (va_up (va_up (s4.1 0) 18 (s.1 0 18)) 19 (s.1 0 19)) 20 (s.1 0 20)) 21 (s.1 0 21)) 22 (s.1 0 22)) 23 (s.1 0 23)) 24 (s.1 0 24)) 25 (s.1 0 25)) := ⟨_, rfl⟩
  have z25 : okZ (s.1 0 25) = true := by
    have : s.1 0 25 = r 3 := hI 0 25 3 rfl
    rw [this]
    rcases hR.1.2.2 with z | z <;> rw [z] <;> rfl
  have pE : XP PP (d + 7) 120 171 [.ref b, .ref b'] [] (bst G3 b' s4) = some (.inl (some (.ref b')), bst G3 b' s5) := by
    have t3b : ∀ t, gT (bst G3 b' t) b = 6 := fun t => by rw [bst_Tr ob]; exact s4b
    have i3b' : ∀ t k, gI (bst G3 b' t) b k = s.1 0 k := fun t k => by rw [bst_Ir ob]; exact i3b k
    have r3b' : ∀ t, gR (bst G3 b' t) b 17 = s.2.2.2.1 := fun t => by rw [bst_Rr ob]; exact r3b
    rw [hs5]
    simp [x120_171, x120_172, x120_173, x120_176, x120_179, x120_180, x120_181, x120_184, x120_187, x120_188, x120_189, x120_192, x120_195, x120_196, x120_197, x120_200, x120_203, x120_204, x120_205, x120_208, x120_211, x120_212, x120_213, x120_216, x120_219, x120_220, x120_221, x120_224, x120_227, x120_228, x120_229, x120_232, x120_235, x120_236, x120_237, x120_240, x120_243, x120_244, bst_T0, bst_T, bst_N, bst_I0, bst_I, bst_R0, bst_R, bst_B, bst_X, bst_S, bst_A, bst_sI, bst_sI0, bst_sC, bst_sY, bst_sE, bI_s, bI_o, bI_2, bI_bI, bC_1, bY_1, bE_1, bT, bN, bR, rf_ref, rf_va, rf_null, c1_int, c1_ref, c1_UV, rvo_n, rvo_r, c1_null, c1_va, up_s, up_o, va_rf_some, va_rf_none, litA, litB, litM, nI_add, okZ_0, okZ_1, okZ_zb, zb_0, gB_add, inb_lit, cl_lit, Nat.lt_irrefl, ↓reduceIte, if_true, if_false, RP_v, RP_n, t3b, i3b', r3b', hb3, z25, rvo_va]
  refine ⟨bst G3 b' s5, s5, ?_, ?_, bst_isB, ?_, ?_, ?_, ?_, ?_, ?_, ?_, ?_, ?_, ?_, ?_, ?_⟩
  · rw [pA, pB]
    have u1 : gT (bst G1 b' t) b' = 6 := bst_T0
    have u2 : gR (bst G1 b' t) b' 13 = some (b' + 13) := bst_R0
    have u3 : gT (bst G2 b' s3) b' = 6 := bst_T0
    have u4 : gR (bst G2 b' s3) b' 13 = some (b' + 13) := bst_R0
    have u5 : gT (bst G2 b' s3) b = 6 := (hsm b (by omega)).1.trans tb
    have u6 : gR (bst G2 b' s3) b 13 = some (b + 13) := ((hsm b (by omega)).2.2.2.2 13).trans (i0.R (j := 0) (by omega))
    have u7 : gT (bst G1 b' t) (b' + 13) = 13 := bst_T (j := 13) (by omega)
    have u8 : gT (bst G2 b' s3) (b' + 13) = 13 := bst_T (j := 13) (by omega)
    rw [isB_bst i3] at pE
    rw [← pE]
    simp [x120_148, x120_149, x120_152_13, x120_152_19, x120_157, x120_158, x120_161, x120_162, x120_165_13, x120_165_19, x120_170, rf_ref, rf_va, rf_null, c1_int, c1_ref, c1_UV, rvo_n, rvo_r, c1_null, c1_va, up_s, up_o, va_rf_some, va_rf_none, litA, litB, litM, nI_add, okZ_0, okZ_1, okZ_zb, zb_0, gB_add, inb_lit, cl_lit, Nat.lt_irrefl, ↓reduceIte, if_true, if_false, RP_v, RP_n, u1, u2, u3, u4, u5, u6, u7, u8, pC, pD]
  · exact ⟨f123.1, f123.2.1, f123.2.2.1, f123.2.2.2.1, f123.2.2.2.2.1, fun a ha _ => (f123.s ha id).trans (sameC_bst (inB_f.mpr (Or.inl (by omega))))⟩
  · intro j k h1 h2 hk
    rw [hs5, bI_o (by omega)]
    show s4.1 j k = _
    rw [hs4]
    show (bI s3 13 f).1 j k = _
    rw [bI_o (by omega), hs3]
    unfold clB
    rw [bI_o (by omega), ht]
    show (if 1 ≤ j ∧ j ≤ 12 then _ else _) = _
    rw [if_pos ⟨h1, h2⟩, cpy_lt hk]
  · intro k h1 h2
    rw [hs5, bI_s]
    rcases (by omega : k = 18 ∨ k = 19 ∨ k = 20 ∨ k = 21 ∨ k = 22 ∨ k = 23 ∨ k = 24 ∨ k = 25) with rfl | rfl | rfl | rfl | rfl | rfl | rfl | rfl <;> simp [up_s, up_o]
  · rw [hs5, bI_o (by decide)]
    show s4.1 17 3 = _
    rw [hs4]
    show (bI s3 13 f).1 17 3 = _
    rw [bI_o (by omega), hs3]
    unfold clB
    rw [bI_o (by omega), ht]
    exact n1.1
  · rw [hs5, bI_o (by decide)]
    show s4.1 13 2 = _
    rw [hs4]
    show (bI s3 13 f).1 13 2 = _
    rw [bI_s, g3]
  · rw [hs5]
    show s4.2.1 = _
    rw [hs4]
    show s3.2.1 = _
    rw [s3e]; exact e11
  · rw [hs5]
    show s4.2.2.1 = _
    rw [hs4]
    show s3.2.2.1 = _
    rw [s3e]; exact e12
  · rw [hs5]; rfl
  · have e5 : s5.2.2.2.2 = e' := by rw [hs5, hs4]; rfl
    have eo : inB b' e' = false := i3.o lb3.1.1
    have hT : ∀ q, gT (bst G3 b' s5) q = gT G3 q := fun q => by
      by_cases y : inB b' q = true
      · have y' := y
        unfold inB at y'
        simp only [Bool.and_eq_true, decide_eq_true_eq] at y'
        obtain ⟨j, hj⟩ : ∃ j, q = b' + j := ⟨q - b', by omega⟩
        subst hj
        rw [bst_T (by omega), i3.T (by omega)]
      · rw [Bool.not_eq_true] at y
        rw [bst_Tr y]
    rw [e5]
    obtain ⟨q1, q2, q3⟩ := lb3
    refine ⟨q1.of rfl (hT _) (bst_Nr eo), ?_, q3⟩
    rw [bst_Nr eo]
    exact q2.of (Nat.le_refl _) (fun k => bst_Rr eo) (fun q _ => hT q)
  · have e5 : s5.2.2.2.2 = e' := by rw [hs5, hs4]; rfl
    have eo : inB b' e' = false := i3.o lb3.1.1
    obtain ⟨q1, q2, q3, q4, q5, q6⟩ := al3
    refine ⟨bst_T (j := 13) (by omega), bst_R (j := 13) (by omega), ?_, by rw [e5, bst_Tr eo]; exact q4, by rw [e5, bst_Nr eo]; exact q5, q6⟩
    rw [bst_I (j := 13) (by omega), hs5, bI_o (by decide)]
    show s4.1 13 2 = _
    rw [hs4]
    show (bI s3 13 f).1 13 2 = _
    rw [bI_s, g3]
  · intro k hk
    have e5 : s5.2.2.2.2 = e' := by rw [hs5, hs4]; rfl
    have eo : inB b' e' = false := i3.o lb3.1.1
    rw [e5, bst_Rr eo, rr3 k hk]
    exact (hsm s.2.2.2.2 hLB.2).2.2.2.2 k
  · have e5 : s5.2.2.2.2 = e' := by rw [hs5, hs4]; rfl
    rw [e5]
    rcases o3 with o | o
    · rw [o, s3e]; exact o1
    · right; have := f12.2.1; omega
  · have := f3.2.1
    show b' + 21 ≤ gX G3
    rw [bst_X] at this
    omega
theorem pos_bN {j k x : Nat} (hK : K ≤ 5) (hA : A ≤ 8) (h : pos K A j k = some x) : (j = 0 ∧ 18 ≤ k ∧ k ≤ 25) ∨ (1 ≤ j ∧ j ≤ 12 ∧ k < bN j) := by
  unfold pos at h
  by_cases j0 : j = 0
  · subst j0
    rw [if_pos rfl] at h
    left
    repeat' split at h
    all_goals first | (refine ⟨rfl, ?_, ?_⟩ <;> omega) | cases h
  · right
    by_cases j6 : j ≤ 6
    · rw [if_neg j0, if_pos j6] at h
      split at h
      · refine ⟨by omega, by omega, ?_⟩
        rcases (by omega : j = 1 ∨ j = 2 ∨ j = 3 ∨ j = 4 ∨ j = 5 ∨ j = 6) with rfl | rfl | rfl | rfl | rfl | rfl <;> assumption
      · cases h
    · rw [if_neg j0, if_neg j6] at h
      by_cases j7 : j = 7
      · subst j7
        rw [if_pos rfl] at h
        split at h
        · exact ⟨by omega, by omega, by show k < 40; omega⟩
        · cases h
      · rw [if_neg j7] at h
        by_cases j8 : j = 8
        · subst j8
          rw [if_pos rfl] at h
          split at h
          · exact ⟨by omega, by omega, by show k < 5; omega⟩
          · cases h
        · rw [if_neg j8] at h
          by_cases j9 : j = 9
          · subst j9
            rw [if_pos rfl] at h
            split at h
            · exact ⟨by omega, by omega, by show k < 5; omega⟩
            · cases h
          · rw [if_neg j9] at h
            by_cases j10 : j = 10
            · subst j10
              rw [if_pos rfl] at h
              split at h
              · exact ⟨by omega, by omega, by assumption⟩
              · cases h
            · rw [if_neg j10] at h
              by_cases j11 : j = 11
              · subst j11
                rw [if_pos rfl] at h
                split at h
                · exact ⟨by omega, by omega, by assumption⟩
                · cases h
              · rw [if_neg j11] at h
                by_cases j12 : j = 12
                · subst j12
                  rw [if_pos rfl] at h
                  split at h
                  · exact ⟨by omega, by omega, by assumption⟩
                  · cases h
                · rw [if_neg j12] at h; cases h
/-- a bus behind a frame, elsewhere -/
theorem BB.to {P : Nat → Prop} {G' : Hp} {x y : Nat} (hC : CW c w K A) (h : BB G b s c w r K A m) (hf : Fr P x y G G') (hb : gX G ≤ b') (hbx : b' + 21 ≤ gX G') (hP : ∀ a, P a → a < gX G → False) (hi : isB G' b' t)
    (e1 : ∀ j k, 1 ≤ j → j ≤ 12 → k < bN j → t.1 j k = s.1 j k) (e2 : ∀ k, 18 ≤ k → k ≤ 25 → t.1 0 k = s.1 0 k) (e3 : t.1 17 3 = nI K) (e4 : t.1 13 2 = nI m) (e5 : t.2.1 = s.2.1) (e6 : t.2.2.1 = s.2.2.1) (e7 : t.2.2.2.1 = s.2.2.2.1) (hl : LB G' t.2.2.2.2) (hal : AL G' (b' + 13) t.2.2.2.2 m)
    (hr : ∀ k, k < m → gR G' t.2.2.2.2 k = gR G s.2.2.2.2 k) : BB G' b' t c w r K A m := by
  have hOKE := h.OKE
  obtain ⟨i0, ⟨hb0, hS, hoz, h17, hI, ⟨hTo, hTy⟩, hQ⟩, hLB, hbx0, hzx, hcx, htx, ez, mz, hl0⟩ := h
  have hsm : ∀ a, a < gX G → sameC G G' a := fun a ha => hf.s ha (fun z => hP a z ha)
  have hX := hf.2.1
  refine ⟨hi, ⟨by rw [hf.B]; omega, ?_, ?_, e3, ?_, ?_, ?_⟩, ⟨hl.1, hl.2.2⟩, hbx, by rw [e5]; omega, fun q hq => ?_, by rw [e6]; omega, ez, mz, ?_⟩
  · rw [e5]; exact hS.same fun j hj => hsm _ (by omega)
  · intro j hj; rw [e5]; exact inB_f.mpr (Or.inl (by omega))
  · intro j k x hp
    rw [← hI j k x hp]
    rcases pos_bN hC.K5 hC.A8 hp with ⟨rfl, q1, q2⟩ | ⟨q1, q2, q3⟩
    · exact e2 k q1 q2
    · exact e1 j k q1 q2 q3
  · refine ⟨by rw [e6]; exact inB_f.mpr (Or.inl (by omega)), ?_⟩
    obtain ⟨t', q1, q2, q3, q4⟩ := hTy
    have := hsm _ htx
    exact ⟨t', q1, q2, by rw [e6, this.1]; exact q3, by rw [e6, this.2.2.1]; exact q4⟩
  · obtain ⟨c1, c2, c3, c4, c5, c6, c7⟩ := hQ
    have hq : ∀ k, k < m → ∀ q, gR G s.2.2.2.2 k = some q → q < gX G := fun k hk q hq => by
      have := hOKE k hk
      rw [hq] at this
      exact this.2
    have hrq : ∀ k q i, k < m → gR G s.2.2.2.2 k = some q → RQ G q r i → inB b' q = false ∧ RQ G' q r i := fun k q i hk h1 h2 => by
      have := hq k hk q h1
      exact ⟨inB_f.mpr (Or.inl (by omega)), h2.same (hsm q this)⟩
    refine ⟨hal.2.2.2.1, hi.o hal.2.2.2.1, hal.2.2.2.2.1, fun h0 => ?_, e4, c6, ?_⟩
    · rcases hl.1.2.2 with ⟨z1, z2⟩ | ⟨z, -⟩
      · have := hal.2.2.2.2.1; omega
      · exact z
    · rcases c7 with ⟨d1, d2, d3, d4⟩ | ⟨q, i, d1, d2, d3, d4, d5, d6, d7, d8⟩
      · left
        refine ⟨e7.trans d1, d2, d3, fun k hk => ?_⟩
        obtain ⟨q, g1, g2, g3⟩ := d4 k hk
        exact ⟨q, by rw [hr k hk, g1], hrq k q k hk g1 g3⟩
      · right
        refine ⟨q, i, e7.trans d1, d2, d3, d4, inB_f.mpr (Or.inl (by have := hcx q (Or.inl d1); omega)), d6.same (hsm q (hcx q (Or.inl d1))), (e2 19 (by omega) (by omega)).trans d7, fun k hk => ?_⟩
        obtain ⟨q, g1, g2, g3⟩ := d8 k hk
        exact ⟨q, by rw [hr k hk, g1], hrq k q _ hk g1 g3⟩
  · have := hcx q (by
      rcases hq with z | ⟨k, hk, z⟩
      · exact Or.inl (e7.symm.trans z)
      · exact Or.inr ⟨k, hk, (hr k hk).symm.trans z⟩)
    omega
  · rw [e5]
    obtain ⟨⟨a1, a2, a3, a4, a5, a6⟩, q2, q3, q4, q5, q6⟩ := hl0
    have ha := hsm _ q5
    have he := hsm _ q6
    exact ⟨⟨ha.1.trans a1, (ha.2.2.2.2 1).trans a2, (ha.2.2.1 2).trans a3, he.1.trans a4, by rw [he.2.1]; exact a5, a6⟩, q2.of hf.1 he.1 he.2.1, q3.of hX he.2.2.2.2 (fun q hq => (hsm q hq).1), q4, by omega, by omega⟩
theorem s_copy (hC : CW c w K A) (hL : CLM G) (h23 : C23 G) (hR : RJ r K A) (h : BB G b s c w r K A m) :
    ∃ G' s', XP PP (d + 7) 120 0 [.ref b, UV] [] G = some (.inl (some (.ref (gX G))), G') ∧ Fr (fun _ => False) 25 883 G G' ∧ BB G' (gX G) s' c w r K A m ∧ s'.2.1 = s.2.1 ∧ s'.2.2.1 = s.2.2.1 ∧ s'.2.2.2.1 = s.2.2.2.1 ∧ (s'.2.2.2.2 = gA G 23 ∨ gX G ≤ s'.2.2.2.2) ∧ (∀ k, k < m → gR G' s'.2.2.2.2 k = gR G s.2.2.2.2 k) ∧ LB G' s'.2.2.2.2 := by
  obtain ⟨ez, mz, hl⟩ := h.2.2.2.2.2.2.2
  obtain ⟨G', s', a1, a2, a3, a4, a5, a6, a7, a8, a9, a10, a11, a12, a13, a14, a15⟩ := s_copy0 (d := d) hC hL h23 hR h hl
  exact ⟨G', s', a1, a2, h.to hC a2 (Nat.le_refl _) a15 (fun _ z _ => z) a3 a4 a5 a6 a7 a8 a9 a10 a11 a12 a13, a8, a9, a10, a14, a13, a11⟩
end

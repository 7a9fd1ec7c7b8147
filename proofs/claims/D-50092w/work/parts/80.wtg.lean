/-! THE COMPONENT's questions: who waits -/
theorem cnt_s (p : Nat → Bool) (n : Nat) : cnt p (n + 1) = cnt p n + if p n = true then 1 else 0 := rfl
theorem cnt_skp {p : Nat → Bool} {i : Nat} (h : p i = false) : ∀ j, cnt (fun k => p (skp i k)) j = cnt p (if j ≤ i then j else j + 1) := by
  intro j
  induction j with
  | zero => rw [if_pos (show 0 ≤ i by omega)]; rfl
  | succ j ih =>
    rw [cnt_s, ih]
    unfold skp
    by_cases q : j < i
    · rw [if_pos (show j ≤ i by omega), if_pos (show j + 1 ≤ i by omega), if_pos q, cnt_s]
    · rw [if_neg q, if_neg (show ¬ j + 1 ≤ i by omega), cnt_s p (j + 1)]
      by_cases q2 : j = i
      · subst q2
        rw [if_pos (Nat.le_refl j), cnt_s, h]
        simp
      · rw [if_neg (show ¬ j ≤ i by omega)]
def wo2 (r : Rw) (a kd : Int32) (i : Nat) : Bool := decide (a = r (118 + 6 * i + 1)) || decide (kd = r (118 + 6 * i + 2))
/-- the waiting list by the row -/
theorem BQ.ix {G : Hp} {b n m K A : Nat} {s : Bs} {r : Rw} (hR : RI r K A n) (h : BQ G b s r n m) : ∃ ix, WL G b s.2.2.2.2 r m ix ∧ IX r n m ix ∧ ∀ p : Nat → Bool, cnt (fun k => p (ix k)) m = cnt (fun i => p i && wtB r i) n := by
  obtain ⟨h1, h2, h3, h4, h5, h6, h7⟩ := h
  rcases h7 with ⟨a1, a2, a3, a4⟩ | ⟨q, i, a1, a2, a3, a4, a5, a6, a7, a8⟩
  · subst a3
    refine ⟨fun k => k, a4, IX_id hR a2, fun p => cnt_congr fun k hk => ?_⟩
    have : wtB r k = true := by unfold wtB; rw [a2]; exact decide_eq_true (hR.ser1 hk)
    rw [this, Bool.and_true]
  · refine ⟨skp i, a8, IX_skp hR a4 a2 a3, fun p => ?_⟩
    have hi : (p i && wtB r i) = false := by
      have : wtB r i = false := by unfold wtB; exact decide_eq_false (fun z => z a3)
      rw [this, Bool.and_false]
    have e := cnt_skp (p := fun i => p i && wtB r i) hi m
    have e' : cnt (fun i => p i && wtB r i) n = cnt (fun i => p i && wtB r i) (if m ≤ i then m else m + 1) := by
      by_cases q : m ≤ i
      · have : i = m := by omega
        subst this
        rw [if_pos (Nat.le_refl _), a4, cnt_s, hi]; simp
      · rw [if_neg q, a4]
    rw [e', ← e]
    refine cnt_congr fun k hk => ?_
    have hne : skp i k < n ∧ ¬ skp i k = i := by unfold skp; split <;> omega
    have : wtB r (skp i k) = true := by
      unfold wtB
      refine decide_eq_true (fun z => hne.2 (hR.serI hne.1 a2 ?_))
      rw [z, a3]
    rw [this, Bool.and_true]
section
variable {d b n x m K A z hn : Nat} {G : Hp} {s : Bs} {c w r : Rw} {ow : Nat → Nat} {hr : Nat → Rw} {sv : Option Rw}
set_option maxHeartbeats 4000000
set_option maxRecDepth 20000
theorem s_waitingOf1 {a kd : Int32} (hC : CW c w K A) (h : XW ow G x c w K A z b s m r hr hn sv) : ∃ G', XP PP (d + 2) 58 0 [.ref x, .int a, .int kd, UV, UV, UV] [] ((G)) = some (.inl (some (.int (nI (cnt (fun i => wo2 r a kd i && wtB r i) (cl (r 9)))))), G') ∧ Fr (fun _ => False) 1 4 G G' := by
  obtain ⟨hh, hx, hxb, hBB, hOW, hz, hRJ, hXH⟩ := h; subst hz; obtain ⟨i0, ⟨hgb, hS, hoz, h17, hBI, hTY, hBQ⟩, hLB, hbx, hzx, hcx, htx, hZL⟩ := hBB; have hC5 := hC.K5; have hC8 := hC.A8; have hn40 := hRJ.n40; have tx : gT G x = 1 := hx.2.2.2.2.1; have tb : gT G b = 6 := i0.T (j := 0) (by omega); have rb : ∀ k, gR G b k = bR (gA G) b s 0 k := fun k => i0.R (j := 0) (by omega); have ib : ∀ k, gI G b k = s.1 0 k := fun k => i0.I (j := 0) (by omega); have tj : ∀ j, j < 21 → gT G (b + j) = bT j := fun j hj => i0.T hj; have nj : ∀ j, j < 21 → gN G (b + j) = bN j := fun j hj => (i0 j hj).2.1; have ij : ∀ j k, j < 21 → gI G (b + j) k = s.1 j k := fun j k hj => i0.I hj; have rj : ∀ j k, j < 21 → gR G (b + j) k = bR (gA G) b s j k := fun j k hj => i0.R hj; have hS' := hS; have sK := fun d => s_suClassesG (d := d) hS; have sA := fun d => s_suAskersG (d := d) hS; obtain ⟨zT, zR0, zR1, zR2, zR3, zR4, zR5, zR6, zT1, zT2, zT5, zT6, zT7, zN5, zN6, zN7, zK, zA, zW, zc3, zc4, zc5, zc6, zc7⟩ := hS; have zT' := zT
  have hal := BQ.AL i0 hBQ
  have hN : gN G s.2.2.2.2 < 2 ^ 31 := by have := hLB.1.2.1; omega
  have hg : gB G ≤ gX G := by omega
  obtain ⟨ix, hwl, hix, hcn⟩ := hBQ.ix hRJ
  have hcn := hcn (wo2 r a kd)
  obtain ⟨p, hp⟩ : ∃ p, p = fun k => wo2 r a kd (ix k) := ⟨_, rfl⟩
  rw [← hp] at hcn
  have si := fun d => s_iterator (d := d) hal (show b + 13 < gX G by omega) hg
  have sh := fun d k l hk => s_hasNext (d := d) (k := k) (l := l) hal (show b + 13 < gX G by omega) hk
  have sn := fun d k l hk => s_next (d := d) (k := k) (l := l) hal (show b + 13 < gX G by omega) hLB.2 hg hk hN
  have hm40 : m ≤ 40 := hBQ.2.2.2.2.2.1
  have hl := XP_forX (P := PP) (d := d + 2) (y := 58) (pc := 16) m (fun (e : Value × Nat → Value) => c1 (e (.null, 0)) = true) (fun k e => [.ref x, .int a, .int kd, .int (nI (cnt p k)), .ref (gX G), e (.null, 0)]) (fun k => iw G (b + 13) k (if k = 0 then -1 else nI (k - 1)))
    (X := some (.inl (some (.int (nI (cnt p m)))), iw G (b + 13) m (if m = 0 then -1 else nI (m - 1))))
    (by
      intro k hk e he
      obtain ⟨q, w1, w2, w3⟩ := hwl k hk
      have qn : ¬ q = gX G := by have := hcx q (Or.inr ⟨k, hk, w1⟩); omega
      have sn' := fun d => sn d k (if k = 0 then -1 else nI (k - 1)) hk
      rw [w1] at sn'
      have sh' := fun d => sh d k (if k = 0 then -1 else nI (k - 1)) (by omega)
      rw [decide_eq_true hk] at sh'
      have g1 : ∀ j k l, gI (iw G (b + 13) k l) q j = gI G q j := fun j k l => iw_Iy qn
      have tq : ∀ k l, gT (iw G (b + 13) k l) q = 11 := fun k l => (iw_Ty qn).trans w3.1
      have tq' : ∀ k l, ([11] : List Nat).contains (gT (iw G (b + 13) k l) q) = true := fun k l => by rw [tq]; rfl
      have ti : ∀ k l, gT (iw G (b + 13) k l) (gX G) = 21 := fun k l => iw_T
      refine ⟨fun _ => .ref q, rfl, ?_⟩
      have ek : (if k + 1 = 0 then (-1 : Int32) else nI (k + 1 - 1)) = nI k := by rw [if_neg (by omega)]; rfl
      rw [ek]
      refine (x58_16 rfl).trans ?_
      have z1 : ¬ zb true = 0 := by decide
      by_cases q1 : a = r (118 + 6 * ix k + 1)
      · have hpk : p k = true := by rw [hp]; unfold wo2; dsimp only; rw [decide_eq_true q1]; rfl
        rw [cnt_s, hpk, if_pos (show true = true from rfl), nI_succ]
        simp [x58_18, x58_23, x58_26, x58_28, x58_33, x58_33n, x58_36, x58_38, x58_39, x58_41, x58_44, x58_47, x58_48, x58_50, x58_53, x58_56, x58_59, rf_ref, rf_va, rf_null, c1_int, c1_ref, c1_UV, rvo_n, rvo_r, c1_null, c1_va, up_s, up_o, va_rf_some, va_rf_none, litA, litB, litM, nI_add, okZ_0, okZ_1, okZ_zb, zb_0, gB_add, inb_lit, cl_lit, Nat.lt_irrefl, ↓reduceIte, if_true, if_false, RP_v, RP_n, sh', sn', ti, tq, tq', g1, w3.2.2.1, w3.2.2.2.1, he, z1, ← q1]
      · by_cases q2 : kd = r (118 + 6 * ix k + 2)
        · have hpk : p k = true := by rw [hp]; unfold wo2; dsimp only; rw [decide_eq_true q2, Bool.or_true]
          rw [cnt_s, hpk, if_pos (show true = true from rfl), nI_succ]
          simp [x58_18, x58_23, x58_26, x58_28, x58_33, x58_33n, x58_36, x58_38, x58_39, x58_41, x58_44, x58_47, x58_48, x58_50, x58_53, x58_56, x58_59, rf_ref, rf_va, rf_null, c1_int, c1_ref, c1_UV, rvo_n, rvo_r, c1_null, c1_va, up_s, up_o, va_rf_some, va_rf_none, litA, litB, litM, nI_add, okZ_0, okZ_1, okZ_zb, zb_0, gB_add, inb_lit, cl_lit, Nat.lt_irrefl, ↓reduceIte, if_true, if_false, RP_v, RP_n, sh', sn', ti, tq, tq', g1, w3.2.2.1, w3.2.2.2.1, he, z1, q1, ← q2]
        · have hpk : p k = false := by rw [hp]; unfold wo2; dsimp only; rw [decide_eq_false q1, decide_eq_false q2]; rfl
          rw [cnt_s, hpk, if_neg (show ¬ false = true by decide), Nat.add_zero]
          simp [x58_18, x58_23, x58_26, x58_28, x58_33, x58_33n, x58_36, x58_38, x58_39, x58_41, x58_44, x58_47, x58_48, x58_50, x58_53, x58_56, x58_59, rf_ref, rf_va, rf_null, c1_int, c1_ref, c1_UV, rvo_n, rvo_r, c1_null, c1_va, up_s, up_o, va_rf_some, va_rf_none, litA, litB, litM, nI_add, okZ_0, okZ_1, okZ_zb, zb_0, gB_add, inb_lit, cl_lit, Nat.lt_irrefl, ↓reduceIte, if_true, if_false, RP_v, RP_n, sh', sn', ti, tq, tq', g1, w3.2.2.1, w3.2.2.2.1, he, z1, q1, q2])
    (by
      intro e he
      have ti : ∀ k l, gT (iw G (b + 13) k l) (gX G) = 21 := fun k l => iw_T
      have sh' := fun d => sh d m (if m = 0 then -1 else nI (m - 1)) (Nat.le_refl _)
      rw [decide_eq_false (Nat.lt_irrefl m)] at sh'
      have z0 : zb false = 0 := rfl
      refine (x58_16 rfl).trans ?_
      simp [x58_18, x58_23, x58_26, x58_28, x58_33, x58_33n, x58_36, x58_38, x58_39, x58_41, x58_44, x58_47, x58_48, x58_50, x58_53, x58_56, x58_59, x58_62, x58_63, rf_ref, rf_va, rf_null, c1_int, c1_ref, c1_UV, rvo_n, rvo_r, c1_null, c1_va, up_s, up_o, va_rf_some, va_rf_none, litA, litB, litM, nI_add, okZ_0, okZ_1, okZ_zb, zb_0, gB_add, inb_lit, cl_lit, Nat.lt_irrefl, ↓reduceIte, if_true, if_false, RP_v, RP_n, sh', ti, z0])
    0 (Nat.zero_le _) (fun _ => UV) rfl
  rw [← hcn]
  refine ⟨iw G (b + 13) m (if m = 0 then -1 else nI (m - 1)), ?_, Fr_iw⟩
  · rw [← hl]
    have z0 : cnt p 0 = 0 := rfl
    have z1 : nI 0 = 0 := rfl
    simp [x58_0, x58_1, x58_2, x58_3, x58_6, x58_9_13, x58_9_19, x58_14, bst_T0, bst_T, bst_N, bst_I0, bst_I, bst_R0, bst_R, bst_B, bst_X, bst_S, bst_A, bst_sI, bst_sI0, bst_sC, bst_sY, bst_sE, bI_s, bI_o, bI_2, bI_bI, bC_1, bY_1, bE_1, bT, bN, bR, rf_ref, rf_va, rf_null, c1_int, c1_ref, c1_UV, rvo_n, rvo_r, c1_null, c1_va, up_s, up_o, va_rf_some, va_rf_none, litA, litB, litM, nI_add, okZ_0, okZ_1, okZ_zb, zb_0, gB_add, inb_lit, cl_lit, Nat.lt_irrefl, ↓reduceIte, if_true, if_false, RP_v, RP_n, tx, hxb, tb, rb, ib, tj, nj, ij, rj, sK, sA, zT, zR0, zR1, zR2, zR3, zR4, zR5, zR6, zT1, zT2, zT5, zT6, zT7, zN5, zN6, zN7, zc3, zc4, zc5, zc6, zc7, hal.1, si, z0, z1]
end

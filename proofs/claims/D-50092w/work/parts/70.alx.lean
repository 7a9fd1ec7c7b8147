/-! the JDK: a list is made, cleared, added to -/
section
variable {d a e m n q : Nat} {G : Hp}
set_option maxHeartbeats 4000000
set_option maxRecDepth 20000
/-- nothing from 0 to n -/
def nnF (f : Nat → Option Nat) (n : Nat) : Nat → Option Nat := fun k => if k < n then none else f k
theorem nnF_0 {f : Nat → Option Nat} : nnF f 0 = f := by funext k; unfold nnF; rw [if_neg (by omega)]
theorem nnF_k {f : Nat → Option Nat} {n : Nat} : va_up (nnF f n) n none = nnF f (n + 1) := by
  funext k; unfold va_up nnF
  by_cases e : k = n
  · rw [if_pos e, if_pos (by omega)]
  · by_cases e2 : k < n
    · rw [if_neg e, if_pos e2, if_pos (by omega)]
    · rw [if_neg e, if_neg e2, if_neg (by omega)]
theorem s_alClear (h : AL G a e m) (hE : EL G e) (ha : gB G ≤ a) (hm : m ≤ 60) :
    XP PP d 324 0 [.ref a, UV, UV, UV] [] (G) = some (.inl (none), sRr (sI (sI G a 0 (gI G a 0 + 1)) a 2 0) e (nnF (gR G e) m)) := by
  obtain ⟨a1, a2, a3, a4, a5, a6⟩ := h
  obtain ⟨H, hH⟩ : ∃ H, H = sI (sI G a 0 (gI G a 0 + 1)) a 2 0 := ⟨_, rfl⟩
  have hl : XP PP d 324 27 [.ref a, .ref e, .int (nI m), .int (nI 0)] [] (sRr H e (nnF (gR G e) 0)) = some (.inl none, sRr H e (nnF (gR G e) m)) := by
    refine XP_for m (fun k => [.ref a, .ref e, .int (nI m), .int (nI k)]) (fun k => sRr H e (nnF (gR G e) k)) ?_ ?_ 0 (Nat.zero_le _)
    · intro k hk
      have hbe : gB G ≤ e := by
        rcases hE.2.2 with ⟨-, z⟩ | ⟨z, -⟩
        · omega
        · exact z
      have e1 : ¬ nI m ≤ nI k := nI_ge hk (by omega)
      have i1 : inb (nI k) (gN G e) = true := inb_nI (by omega) (by have := hE.2.1; omega)
      have i2 : (nI k).toNatClampNeg = k := nI_clamp (by omega)
      have h1 : gT H e = 110 := by rw [hH]; exact a4
      have h2 : gN H e = gN G e := by rw [hH]; rfl
      have h3 : gB H = gB G := by rw [hH]; rfl
      refine Eq.trans (by first | exact x324_27 | exact x324_27 (rf_ref _) | exact x324_27 rfl) ?_
      simp [x324_0, x324_1, x324_2, x324_5, x324_6, x324_7, x324_10, x324_11, x324_14, x324_15, x324_16, x324_19, x324_20, x324_21, x324_22, x324_23, x324_26, x324_28, x324_29, x324_32, x324_33, x324_34, x324_35, x324_35n, x324_36, x324_39, x324_42, rf_ref, rf_va, rf_null, c1_int, c1_ref, c1_UV, rvo_n, rvo_r, c1_null, c1_va, up_s, up_o, va_rf_some, va_rf_none, litA, litB, litM, nI_add, okZ_0, okZ_1, okZ_zb, zb_0, gB_add, inb_lit, cl_lit, Nat.lt_irrefl, ↓reduceIte, if_true, if_false, RP_v, RP_n, nv_A, nv_B, nv_S, nv_X, sI_A, sI_B, sI_J, sI_N, sI_R, sI_S, sI_T, sI_X, sIr_A, sIr_B, sIr_J, sIr_N, sIr_R, sIr_S, sIr_T, sIr_X, sJ_A, sJ_B, sJ_I, sJ_N, sJ_R, sJ_S, sJ_T, sJ_X, sR_A, sR_B, sR_I, sR_J, sR_N, sR_S, sR_T, sR_X, sRr_A, sRr_B, sRr_I, sRr_J, sRr_N, sRr_S, sRr_T, sRr_X, e1, i1, i2, h1, h2, h3, hbe, sR_sRr, nnF_k, nI_1]
    · refine Eq.trans (by first | exact x324_27 | exact x324_27 (rf_ref _) | exact x324_27 rfl) ?_
      simp [x324_0, x324_1, x324_2, x324_5, x324_6, x324_7, x324_10, x324_11, x324_14, x324_15, x324_16, x324_19, x324_20, x324_21, x324_22, x324_23, x324_26, x324_28, x324_29, x324_32, x324_33, x324_34, x324_35, x324_35n, x324_36, x324_39, x324_42, rf_ref, rf_va, rf_null, c1_int, c1_ref, c1_UV, rvo_n, rvo_r, c1_null, c1_va, up_s, up_o, va_rf_some, va_rf_none, litA, litB, litM, nI_add, okZ_0, okZ_1, okZ_zb, zb_0, gB_add, inb_lit, cl_lit, Nat.lt_irrefl, ↓reduceIte, if_true, if_false, RP_v, RP_n]
  have h0 : sRr H e (nnF (gR G e) 0) = H := by
    rw [nnF_0]
    have := sRr_id (G := H) (a := e)
    rw [hH] at this ⊢
    exact this
  rw [h0] at hl
  have e0 : nI 0 = 0 := rfl
  rw [e0] at hl
  rw [← hH]
  have hH' : sI (sI G a 0 (gI G a 0 + 1)) a 2 0 = H := hH.symm
  simp [x324_0, x324_1, x324_2, x324_5, x324_6, x324_7, x324_10, x324_11, x324_14, x324_15, x324_16, x324_19, x324_20, x324_21, x324_22, x324_23, x324_26, rf_ref, rf_va, rf_null, c1_int, c1_ref, c1_UV, rvo_n, rvo_r, c1_null, c1_va, up_s, up_o, va_rf_some, va_rf_none, litA, litB, litM, nI_add, okZ_0, okZ_1, okZ_zb, zb_0, gB_add, inb_lit, cl_lit, Nat.lt_irrefl, ↓reduceIte, if_true, if_false, RP_v, RP_n, nv_A, nv_B, nv_S, nv_X, sI_A, sI_B, sI_J, sI_N, sI_R, sI_S, sI_T, sI_X, sIr_A, sIr_B, sIr_J, sIr_N, sIr_R, sIr_S, sIr_T, sIr_X, sJ_A, sJ_B, sJ_I, sJ_N, sJ_R, sJ_S, sJ_T, sJ_X, sR_A, sR_B, sR_I, sR_J, sR_N, sR_S, sR_T, sR_X, sRr_A, sRr_B, sRr_I, sRr_J, sRr_N, sRr_S, sRr_T, sRr_X, a1, a2, a3, ha, sI_Ik, hH', hl]
/-- one more -/
theorem s_alAdd (h : AL G a e m) (hE : EL G e) (ha : gB G ≤ a) (hax : a < gX G) (hex : e < gX G) (hb : gB G ≤ gX G) (ho : OKE G e (gN G e)) (hm : m < 40) (h23 : gA G 23 < gB G) (hq : okA 110 (gT G q) = true) (hqx : q < gX G) :
    ∃ G' e', XP PP (d + 5) 314 0 [.ref a, .ref q] [] (G) = some (.inl (some (.int 1)), G') ∧ Fr (fun x => x = a ∨ (x = e ∧ gB G ≤ e)) 1 60 G G' ∧ AL G' a e' (m + 1) ∧ EL G' e' ∧ e' < gX G' ∧ (∀ k, k < m → gR G' e' k = gR G e k) ∧ gR G' e' m = some q ∧ OKE G' e' (gN G' e') ∧ (e' = e ∨ gX G ≤ e') ∧ (∀ k, ¬ k = 1 → gR G' a k = gR G a k) ∧ gN G' a = gN G a ∧ (∀ k, ¬ k = 0 → ¬ k = 2 → gI G' a k = gI G a k) ∧ (∀ k, ¬ k = m → gR G' e' k = gR G e k ∨ gR G' e' k = none) := by
  have h' := h
  obtain ⟨a1, a2, a3, a4, a5, a6⟩ := h
  have hea : ¬ e = a := fun z => by rw [z, a1] at a4; exact absurd a4 (by decide)
  obtain ⟨G2, hG2⟩ : ∃ G2, G2 = sI G a 0 (gI G a 0 + 1) := ⟨_, rfl⟩
  have f2 : Fr (fun x => x = a) 0 0 G G2 := by rw [hG2]; exact Fr_sI
  have b1 : gT G2 a = 13 := by rw [hG2]; exact a1
  have b2 : gR G2 a 1 = some e := by rw [hG2]; exact a2
  have b3 : gI G2 a 2 = nI m := by rw [hG2, sI_Ik (by decide)]; exact a3
  have b4 : gT G2 e = 110 := by rw [hG2]; exact a4
  have b5 : gN G2 e = gN G e := by rw [hG2]; rfl
  have bX : gX G2 = gX G := by rw [hG2]; rfl
  have bO : OKE G2 e (gN G2 e) := by rw [hG2]; exact ho
  have bE : EL G2 e := by rw [hG2]; exact hE
  have j1 : inb (nI m) (gN G e) = true ∨ gN G e = m := by
    by_cases z : m < gN G e
    · exact Or.inl (inb_nI z (by have := hE.2.1; omega))
    · exact Or.inr (by omega)
  have j2 : (nI m).toNatClampNeg = m := nI_clamp (by omega)
  -- the end
  have hfin : ∀ (d : Nat) G3 e' (v1 v3 : Value), gT G3 a = 13 → gT G3 e' = 110 → m < gN G3 e' → gN G3 e' ≤ 60 → gB G3 = gB G → gB G ≤ e' → ¬ a = e' → gR G3 a 1 = some e' → EL G3 e' → OKE G3 e' (gN G3 e') → gT G3 q = gT G q → gX G ≤ gX G3 →
      XP PP (d + 4) 315 11 [.ref a, .ref q, .ref e', .int (nI m)] [] G3 = some (.inl none, sI (sR G3 e' m (some q)) a 2 (nI (m + 1))) ∧
      AL (sI (sR G3 e' m (some q)) a 2 (nI (m + 1))) a e' (m + 1) ∧ EL (sI (sR G3 e' m (some q)) a 2 (nI (m + 1))) e' ∧ OKE (sI (sR G3 e' m (some q)) a 2 (nI (m + 1))) e' (gN G3 e') := by
    intro d G3 e' v1 v3 c1 c2 c3 c4 c5 c6 c7 c8 c9 c10 c11 c12
    have i1 : inb (nI m) (gN G3 e') = true := inb_nI c3 (by omega)
    refine ⟨?_, ⟨c1, ?_, sI_Is, c2, c3, by omega⟩, c9, fun k hk => ?_⟩
    · simp [x315_11, x315_12, x315_13, x315_14, x315_14n, x315_15, x315_16, x315_17, x315_18, x315_19, x315_22, rf_ref, rf_va, rf_null, c1_int, c1_ref, c1_UV, rvo_n, rvo_r, c1_null, c1_va, up_s, up_o, va_rf_some, va_rf_none, litA, litB, litM, nI_add, okZ_0, okZ_1, okZ_zb, zb_0, gB_add, inb_lit, cl_lit, Nat.lt_irrefl, ↓reduceIte, if_true, if_false, RP_v, RP_n, nv_A, nv_B, nv_S, nv_X, sI_A, sI_B, sI_J, sI_N, sI_R, sI_S, sI_T, sI_X, sIr_A, sIr_B, sIr_J, sIr_N, sIr_R, sIr_S, sIr_T, sIr_X, sJ_A, sJ_B, sJ_I, sJ_N, sJ_R, sJ_S, sJ_T, sJ_X, sR_A, sR_B, sR_I, sR_J, sR_N, sR_S, sR_T, sR_X, sRr_A, sRr_B, sRr_I, sRr_J, sRr_N, sRr_S, sRr_T, sRr_X, c1, c2, i1, j2, c5, c6, c11, hq, ha, nI_1]
    · show gR (sR G3 e' m _) a 1 = _
      rw [sR_Ra c7]; exact c8
    · show match gR (sR G3 e' m (some q)) e' k with | none => True | some q => okA 110 (gT G3 q) = true ∧ q < gX G3
      by_cases y : k = m
      · subst y
        rw [sR_Rs]
        exact ⟨by rw [c11]; exact hq, by omega⟩
      · rw [sR_Rk y]; exact c10 k hk
  by_cases q2 : m = gN G e
  · obtain ⟨e', he'⟩ : ∃ e', e' = gX G2 := ⟨_, rfl⟩
    have sg := fun d => s_alGrow (d := d) (mc := m + 1) (m := m) (G := G2) ⟨b1, b2, b3, b4, by omega, by omega⟩ bE (by omega) (by omega) (by omega) (by rw [f2.B]; exact ha) (by omega) (by omega) (by rw [f2.B]; omega) bO
    obtain ⟨L, hL⟩ : ∃ L, L = gwL (gN G2 e) (m + 1) := ⟨_, rfl⟩
    have hLm : m + 1 ≤ L ∧ 10 ≤ L ∧ L ≤ 60 := by
      rw [hL, b5]
      unfold gwL
      rcases hE.2.2 with ⟨-, z⟩ | ⟨-, -, z⟩
      · rw [if_pos z]; omega
      · rw [if_neg (by omega)]; omega
    obtain ⟨G3, hG3⟩ : ∃ G3, G3 = sR (sRr (nw G2 110 L) e' (va_cpy (gR G2 e) (fun _ => none) 0 0 (gN G2 e))) a 1 (some e') := ⟨_, rfl⟩
    rw [← he', ← hL, ← hG3] at sg
    have hae' : ¬ a = e' := by omega
    have f3 : Fr (fun x => x = a) 1 L G G3 := by
      rw [hG3]
      exact (((f2.trans Fr_nw).trans Fr_sRr).trans Fr_sR).mono (fun q hq z => by
        rcases z with ((z | z) | z) | z
        · exact z
        · exact absurd z id
        · omega
        · exact z) (by omega) (by omega)
    have c1 : gT G3 a = 13 := by rw [hG3]; show gT (nw G2 110 L) a = _; rw [nv_T (by omega)]; exact b1
    have c4 : gT G3 e' = 110 := by rw [hG3, he']; exact nv_Ts (n := L)
    have c5 : gN G3 e' = L := by rw [hG3, he']; exact nv_Ns (t := 110)
    have cT : ∀ q, q < gX G2 → gT G3 q = gT G2 q := fun q hq => by rw [hG3]; show gT (nw G2 110 L) q = _; exact nv_T (by omega)
    have c15 : gX G3 = gX G2 + 1 := by rw [hG3]; rfl
    have cE : ∀ k, gR G3 e' k = va_cpy (gR G2 e) (fun _ => none) 0 0 (gN G2 e) k := fun k => by
      rw [hG3, sR_Ra (fun z => hae' z.symm), sRr_s]
    have c12 : gR G3 a 1 = some e' := by rw [hG3]; exact sR_Rs
    have c14 : OKE G3 e' (gN G3 e') := fun k hk => by
      rw [cE k]
      unfold va_cpy
      by_cases y : k < gN G2 e
      · rw [if_pos (by omega), show 0 + (k - 0) = k by omega]
        have := bO k y
        cases hq : gR G2 e k with
        | none => trivial
        | some q => rw [hq] at this; exact ⟨by rw [cT q this.2]; exact this.1, by have := this.2; omega⟩
      · rw [if_neg (by omega)]; trivial
    have c13 : EL G3 e' := ⟨c4, by omega, Or.inr ⟨by rw [f3.B]; omega, by
      rw [f3.A]
      intro z
      omega, by omega⟩⟩
    obtain ⟨g1, g2, g3, g5⟩ := hfin d G3 e' .null .null c1 c4 (by omega) (by omega) f3.B (by omega) hae' c12 c13 c14 (by rw [cT q (by omega), hG2]; rfl) (by omega)
    refine ⟨_, e', ?_, ?_, g2, g3, by show e' < gX G3; omega, fun k hk => ?_, ?_, g5, Or.inr (by omega), ?_, ?_, ?_, fun k hk => ?_⟩
    rotate_left
    · exact ((f3.trans Fr_sR).trans Fr_sI).mono (fun q hq z => by
        rcases z with (z | z) | z
        · exact Or.inl z
        · omega
        · exact Or.inl z) (by omega) (by omega)
    · show gR (sR G3 e' m _) e' k = _
      rw [sR_Rk (by omega), cE k]
      unfold va_cpy
      rw [if_pos (by omega), show 0 + (k - 0) = k by omega, hG2]; rfl
    · show gR (sR G3 e' m _) e' m = _
      exact sR_Rs
    · intro k hk
      show gR (sR G3 e' m _) a k = _
      rw [sR_Ra hae', hG3, sR_Rk hk]
      show gR (sRr (nw G2 110 L) e' _) a k = _
      rw [sRr_o hae', nv_R (by omega), hG2]; rfl
    · show gN G3 a = _
      rw [hG3]; show gN (nw G2 110 L) a = _
      rw [nv_N (by omega), hG2]; rfl
    · intro k h0 h1
      rw [sI_Ik h1]
      show gI G3 a k = _
      rw [hG3]; show gI (nw G2 110 L) a k = _
      rw [nv_I (by omega), hG2, sI_Ik h0]
    · show gR (sR G3 e' m _) e' k = _ ∨ gR (sR G3 e' m _) e' k = _
      rw [sR_Rk hk, cE k]
      unfold va_cpy
      by_cases y : k < gN G2 e
      · left
        rw [if_pos (by omega), show 0 + (k - 0) = k by omega, hG2]; rfl
      · right
        rw [if_neg (by omega)]
    · have hG2' : sI G a 0 (gI G a 0 + 1) = G2 := hG2.symm
      have e1 : nI m = nI (gN G e) := by rw [← q2]
      have e2 : nI (gN G2 e) = nI m := by rw [b5, ← q2]
      simp [x314_0, x314_1, x314_2, x314_5, x314_6, x314_7, x314_10, x314_11, x314_12, x314_13, x314_16, x314_17, x314_20, x314_23, x314_24, x315_0, x315_1, x315_2, x315_3, x315_6, x315_7, x315_10, x316_0, x316_1, x316_2, x316_5, x316_6, x316_7, x316_10, rf_ref, rf_va, rf_null, c1_int, c1_ref, c1_UV, rvo_n, rvo_r, c1_null, c1_va, up_s, up_o, va_rf_some, va_rf_none, litA, litB, litM, nI_add, okZ_0, okZ_1, okZ_zb, zb_0, gB_add, inb_lit, cl_lit, Nat.lt_irrefl, ↓reduceIte, if_true, if_false, RP_v, RP_n, nv_A, nv_B, nv_S, nv_X, sI_A, sI_B, sI_J, sI_N, sI_R, sI_S, sI_T, sI_X, sIr_A, sIr_B, sIr_J, sIr_N, sIr_R, sIr_S, sIr_T, sIr_X, sJ_A, sJ_B, sJ_I, sJ_N, sJ_R, sJ_S, sJ_T, sJ_X, sR_A, sR_B, sR_I, sR_J, sR_N, sR_S, sR_T, sR_X, sRr_A, sRr_B, sRr_I, sRr_J, sRr_N, sRr_S, sRr_T, sRr_X, a1, ha, hG2', b1, b2, b3, b4, e2, sg, g1, nI_1]
  · have hbe : gB G ≤ e := by
      rcases hE.2.2 with ⟨-, z⟩ | ⟨z, -⟩
      · omega
      · exact z
    obtain ⟨g1, g2, g3, g5⟩ := hfin d G2 e .null .null b1 b4 (by omega) (by have := hE.2.1; omega) f2.B hbe (fun z => hea z.symm) b2 bE bO (by rw [hG2]; rfl) (by omega)
    refine ⟨_, e, ?_, ?_, g2, g3, by show e < gX G2; omega, fun k hk => ?_, ?_, g5, Or.inl rfl, ?_, ?_, ?_, fun k hk => ?_⟩
    · have hG2' : sI G a 0 (gI G a 0 + 1) = G2 := hG2.symm
      have e2 : ¬ nI m = nI (gN G2 e) := fun z => by
        rw [b5] at z
        exact q2 ((nI_eq (by omega) (by have := hE.2.1; omega)).mp z)
      simp [x314_0, x314_1, x314_2, x314_5, x314_6, x314_7, x314_10, x314_11, x314_12, x314_13, x314_16, x314_17, x314_20, x314_23, x314_24, x315_0, x315_1, x315_2, x315_3, x315_6, x315_7, x315_10, rf_ref, rf_va, rf_null, c1_int, c1_ref, c1_UV, rvo_n, rvo_r, c1_null, c1_va, up_s, up_o, va_rf_some, va_rf_none, litA, litB, litM, nI_add, okZ_0, okZ_1, okZ_zb, zb_0, gB_add, inb_lit, cl_lit, Nat.lt_irrefl, ↓reduceIte, if_true, if_false, RP_v, RP_n, nv_A, nv_B, nv_S, nv_X, sI_A, sI_B, sI_J, sI_N, sI_R, sI_S, sI_T, sI_X, sIr_A, sIr_B, sIr_J, sIr_N, sIr_R, sIr_S, sIr_T, sIr_X, sJ_A, sJ_B, sJ_I, sJ_N, sJ_R, sJ_S, sJ_T, sJ_X, sR_A, sR_B, sR_I, sR_J, sR_N, sR_S, sR_T, sR_X, sRr_A, sRr_B, sRr_I, sRr_J, sRr_N, sRr_S, sRr_T, sRr_X, a1, ha, hG2', b1, b2, b3, b4, e2, g1]
    · exact ((f2.trans Fr_sR).trans Fr_sI).mono (fun x hx z => by
        rcases z with (z | z) | z
        · exact Or.inl z
        · exact Or.inr ⟨z, hbe⟩
        · exact Or.inl z) (by omega) (by omega)
    · show gR (sR G2 e m _) e k = _
      rw [sR_Rk (by omega), hG2]; rfl
    · show gR (sR G2 e m _) e m = _
      exact sR_Rs
    · intro k hk
      show gR (sR G2 e m _) a k = _
      rw [sR_Ra (fun z => hea z.symm), hG2]; rfl
    · show gN G2 a = _
      rw [hG2]; rfl
    · intro k h0 h1
      rw [sI_Ik h1]
      show gI G2 a k = _
      rw [hG2, sI_Ik h0]
    · left
      show gR (sR G2 e m _) e k = _
      rw [sR_Rk hk, hG2]; rfl
end

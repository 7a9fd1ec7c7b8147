/-! the JDK: a list's addAll, add, clear, isEmpty -/
section
variable {d a e m n a2 e2 m2 : Nat} {G : Hp}
set_option maxHeartbeats 4000000
set_option maxRecDepth 20000
theorem OKE.le {k m : Nat} (h : OKE G e m) (hk : k ≤ m) : OKE G e k := fun j hj => h j (by omega)
theorem s_toArray (h : AL G a e m) (hN : gN G e ≤ 60) (hex : e < gX G) (hb : gB G ≤ gX G) (ho : OKE G e m) :
    XP PP (d + 2) 319 0 [.ref a] [] (G) = some (.inl (some (.ref (gX G))), sRr (nw G 110 m) (gX G) (va_cpy (gR G e) (fun _ => none) 0 0 m)) := by
  obtain ⟨a1, a2, a3, a4, a5, a6⟩ := h
  have hmin : min (gN G e) m = m := Nat.min_eq_right a5
  have sc := fun d => s_copyOf (d := d) (G := G) (e := e) (n := m) (by omega) a4 hex (by omega) hb (by rw [hmin]; exact ho)
  rw [hmin] at sc
  simp [x319_0, x319_1, x319_4, x319_5, x319_8, x319_11, rf_ref, rf_va, rf_null, c1_int, c1_ref, c1_UV, rvo_n, rvo_r, c1_null, c1_va, up_s, up_o, va_rf_some, va_rf_none, litA, litB, litM, nI_add, okZ_0, okZ_1, okZ_zb, zb_0, gB_add, inb_lit, cl_lit, Nat.lt_irrefl, ↓reduceIte, if_true, if_false, RP_v, RP_n, a1, a2, a3, sc]
theorem EL.fr {P : Nat → Prop} {x y : Nat} {G' : Hp} (h : EL G e) (hf : Fr P x y G G') (he : e < gX G) (hs : gT G' e = gT G e) (hn : gN G' e = gN G e) : EL G' e := by
  unfold EL at h ⊢
  rw [hs, hn, hf.A, hf.B]; exact h
/-- from the copy on: an array t is put ahead into e' -/
theorem s_alPut {t e' : Nat} (hT : gT G a = 13) (hTt : gT G t = 110) (hTe : gT G e' = 110) (hNt : m2 ≤ gN G t) (hNe : m2 ≤ gN G e') (hm : m2 ≤ 60) (ha : gB G ≤ a) (hbe : gB G ≤ e') (ho : OKE G t m2) :
    XP PP (d + 3) 318 56 [.ref a, .ref a2, .ref t, .int (nI m2), .ref e', .int 0] [] G = some (.inl (some (.int 1)), sI (sRr G e' (va_cpy (gR G t) (gR G e') 0 0 m2)) a 2 (nI m2)) := by
  have j1 : (nI m2).toNatClampNeg = m2 := nI_clamp (by omega)
  have k1 : (0 : Int32).toNatClampNeg = 0 := rfl
  have k2 := n_nlt (x := m2) (by omega)
  have hc : cpOK G e' t 0 0 (nI m2) = true := by
    unfold cpOK
    rw [j1, k1, hTt, hTe]
    simp [k2, hbe, hNt, hNe]
  have hr : rAll okA G e' t 0 m2 = true := by
    unfold rAll
    rw [List.all_eq_true]
    intro i hi
    rw [List.mem_range] at hi
    have := ho i hi
    rw [Nat.zero_add, hTe]
    cases hq : gR G t i with
    | none => rfl
    | some q => rw [hq] at this; exact this.1
  simp [x318_56, x318_57, x318_58, x318_60, x318_62, x318_63, x318_63b, x318_63r, x318_66, x318_67, x318_69, x318_70, x318_71, x318_74, x318_75, rf_ref, rf_va, rf_null, c1_int, c1_ref, c1_UV, rvo_n, rvo_r, c1_null, c1_va, up_s, up_o, va_rf_some, va_rf_none, litA, litB, litM, nI_add, okZ_0, okZ_1, okZ_zb, zb_0, gB_add, inb_lit, cl_lit, Nat.lt_irrefl, ↓reduceIte, if_true, if_false, RP_v, RP_n, nv_A, nv_B, nv_S, nv_X, sI_A, sI_B, sI_J, sI_N, sI_R, sI_S, sI_T, sI_X, sIr_A, sIr_B, sIr_J, sIr_N, sIr_R, sIr_S, sIr_T, sIr_X, sJ_A, sJ_B, sJ_I, sJ_N, sJ_R, sJ_S, sJ_T, sJ_X, sR_A, sR_B, sR_I, sR_J, sR_N, sR_S, sR_T, sR_X, sRr_A, sRr_B, sRr_I, sRr_J, sRr_N, sRr_S, sRr_T, sRr_X, hT, hTt, hTe, j1, k1, hc, hr, ha]
/-- what an empty list takes over from another one -/
theorem s_alAddAll0 (h : AL G a e 0) (h2 : AL G a2 e2 m2) (hE : EL G e) (hE2 : EL G e2) (ha : gB G ≤ a) (hax : a < gX G) (hex : e < gX G) (hex2 : e2 < gX G) (hb : gB G ≤ gX G) (ho : OKE G e (gN G e)) (ho2 : OKE G e2 m2) (hm : m2 ≤ 40) (h23 : gA G 23 < gB G) :
    ∃ v G' e', XP PP (d + 3) 318 0 [.ref a, .ref a2, UV, UV, UV, UV] [] (G) = some (.inl (some (.int v)), G') ∧ Fr (fun q => q = a ∨ (q = e ∧ gB G ≤ e)) 2 160 G G' ∧ AL G' a e' m2 ∧ EL G' e' ∧ e' < gX G' ∧ (∀ k, k < m2 → gR G' e' k = gR G e2 k) ∧ OKE G' e' (gN G' e') ∧ (e' = e ∨ gX G ≤ e') ∧ (∀ k, ¬ k = 1 → gR G' a k = gR G a k) ∧ gN G' a = gN G a ∧ (∀ k, ¬ k = 0 → ¬ k = 2 → gI G' a k = gI G a k) := by
  have h' := h
  obtain ⟨a1, a2', a3, a4, a5, a6⟩ := h
  have hea : ¬ e = a := fun z => by rw [z, a1] at a4; exact absurd a4 (by decide)
  obtain ⟨t, ht⟩ : ∃ t, t = gX G := ⟨_, rfl⟩
  have hat : ¬ a = t := by omega
  have het : ¬ e = t := by omega
  have sa := fun d => s_toArray (d := d) h2 hE2.2.1 hex2 hb ho2
  obtain ⟨G1, hG1⟩ : ∃ G1, G1 = sRr (nw G 110 m2) (gX G) (va_cpy (gR G e2) (fun _ => none) 0 0 m2) := ⟨_, rfl⟩
  rw [← hG1] at sa
  have f1 : Fr (fun _ => False) 1 m2 G G1 := by
    rw [hG1]
    refine (Fr_nw.trans Fr_sRr).mono (fun q hq z => ?_) (by omega) (by omega)
    rcases z with z | z
    · exact z
    · omega
  obtain ⟨G2, hG2⟩ : ∃ G2, G2 = sI G1 a 0 (gI G1 a 0 + 1) := ⟨_, rfl⟩
  have f2 : Fr (fun q => q = a) 1 m2 G G2 := by
    rw [hG2]
    exact (f1.trans Fr_sI).mono (fun q _ z => by rcases z with z | z; exact absurd z id; exact z) (by omega) (by omega)
  have sea := f1.s hax id
  have see := f1.s hex id
  have b1 : gT G2 a = 13 := by rw [hG2]; exact sea.1.trans a1
  have b2 : gR G2 a 1 = some e := by rw [hG2]; exact (sea.2.2.2.2 1).trans a2'
  have b3 : gI G2 a 2 = 0 := by rw [hG2, sI_Ik (by decide)]; exact (sea.2.2.1 2).trans a3
  have b4 : gT G2 e = 110 := by rw [hG2]; exact see.1.trans a4
  have b5 : gN G2 e = gN G e := by rw [hG2]; exact see.2.1
  have b6 : gT G2 t = 110 := by rw [hG2, hG1, ht]; exact nv_Ts (n := m2)
  have b7 : gN G2 t = m2 := by rw [hG2, hG1, ht]; exact nv_Ns (t := 110)
  have b8 : ∀ k, k < m2 → gR G2 t k = gR G e2 k := fun k hk => by
    rw [hG2, hG1, ht]
    show gR (sRr (nw G 110 m2) (gX G) _) (gX G) k = _
    rw [sRr_s]
    unfold va_cpy
    rw [if_pos (by omega)]
    congr 1; omega
  have bX : gX G2 = gX G + 1 := by rw [hG2, hG1]; rfl
  have bA : ∀ k, ¬ k = 1 → gR G2 a k = gR G a k := fun k _ => by rw [hG2]; exact sea.2.2.2.2 k
  have bA2 : ∀ k, ¬ k = 0 → gI G2 a k = gI G a k := fun k hk => by rw [hG2, sI_Ik hk]; exact sea.2.2.1 k
  have bAN : gN G2 a = gN G a := by rw [hG2]; exact sea.2.1
  have tT : ∀ q, q < gX G → gT G2 q = gT G q := fun q hq => by rw [hG2]; exact (f1.s hq id).1
  have bO : OKE G2 t m2 := fun k hk => by
    rw [b8 k hk]
    have := ho2 k hk
    cases hq : gR G e2 k with
    | none => trivial
    | some q =>
      rw [hq] at this
      exact ⟨by rw [tT q this.2]; exact this.1, by rw [bX]; have := this.2; omega⟩
  have bOe : OKE G2 e (gN G2 e) := fun k hk => by
    rw [b5] at hk
    have hr : gR G2 e k = gR G e k := by rw [hG2]; exact see.2.2.2.2 k
    rw [hr]
    have := ho k hk
    cases hq : gR G e k with
    | none => trivial
    | some q =>
      rw [hq] at this
      exact ⟨by rw [tT q this.2]; exact this.1, by rw [bX]; have := this.2; omega⟩
  have bE : EL G2 e := hE.fr f2 hex (b4.trans a4.symm) b5
  have j1 : gT G1 a = 13 := sea.1.trans a1
  have j2 : gB G1 ≤ a := by rw [f1.B]; exact ha
  have j3 : gI G1 a 2 = 0 := (sea.2.2.1 2).trans a3
  have e5 : nI (gN G e) - 0 = nI (gN G e) := Int32.sub_zero _
  by_cases q0 : m2 = 0
  · subst q0
    refine ⟨0, G2, e, ?_, f2.mono (fun q _ z => Or.inl z) (by omega) (by omega), ⟨b1, b2, b3, b4, Nat.zero_le _, by omega⟩, bE, by omega, fun k hk => by omega, bOe, Or.inl rfl, bA, bAN, fun k h0 _ => bA2 k h0⟩
    have q1 : nI 0 = 0 := rfl
    simp [x318_0, x318_1_13, x318_1_19, x318_1_22, x318_6, x318_7, x318_8, x318_9, x318_12, x318_13, x318_14, x318_17, x318_18, x318_19, x318_20, x318_21, x318_24, x318_25, x318_26, x318_27, x318_28, x318_31, x318_32, x318_34, x318_35, x318_36, x318_39, x318_40, x318_42, x318_43, x318_46, x318_47, x318_49, x318_50, x318_51, x318_54, x318_56, x318_57, x318_58, x318_60, x318_62, x318_63, x318_63b, x318_63r, x318_66, x318_67, x318_69, x318_70, x318_71, x318_74, x318_75, rf_ref, rf_va, rf_null, c1_int, c1_ref, c1_UV, rvo_n, rvo_r, c1_null, c1_va, up_s, up_o, va_rf_some, va_rf_none, litA, litB, litM, nI_add, okZ_0, okZ_1, okZ_zb, zb_0, gB_add, inb_lit, cl_lit, Nat.lt_irrefl, ↓reduceIte, if_true, if_false, RP_v, RP_n, nv_A, nv_B, nv_S, nv_X, sI_A, sI_B, sI_J, sI_N, sI_R, sI_S, sI_T, sI_X, sIr_A, sIr_B, sIr_J, sIr_N, sIr_R, sIr_S, sIr_T, sIr_X, sJ_A, sJ_B, sJ_I, sJ_N, sJ_R, sJ_S, sJ_T, sJ_X, sR_A, sR_B, sR_I, sR_J, sR_N, sR_S, sR_T, sR_X, sRr_A, sRr_B, sRr_I, sRr_J, sRr_N, sRr_S, sRr_T, sRr_X, h2.1, sa, ← ht, j1, j2, ← hG2, b6, b7, q1]
  · have q1 : ¬ nI m2 = 0 := fun z => q0 ((nI_eq (b := 0) (by omega) (by omega)).mp z)
    -- the end, from an array e' on
    have hfin : ∀ G3 e', gT G3 a = 13 → gT G3 t = 110 → gN G3 t = m2 → gT G3 e' = 110 → m2 ≤ gN G3 e' → gB G3 = gB G → gB G ≤ e' → OKE G3 t m2 → (∀ k, k < m2 → gR G3 t k = gR G e2 k) → ¬ a = e' → ¬ t = e' → gR G3 a 1 = some e' → EL G3 e' → OKE G3 e' (gN G3 e') → e' < gX G3 →
        XP PP (d + 3) 318 56 [.ref a, .ref a2, .ref t, .int (nI m2), .ref e', .int 0] [] G3 = some (.inl (some (.int 1)), sI (sRr G3 e' (va_cpy (gR G3 t) (gR G3 e') 0 0 m2)) a 2 (nI m2)) ∧
        AL (sI (sRr G3 e' (va_cpy (gR G3 t) (gR G3 e') 0 0 m2)) a 2 (nI m2)) a e' m2 ∧ EL (sI (sRr G3 e' (va_cpy (gR G3 t) (gR G3 e') 0 0 m2)) a 2 (nI m2)) e' ∧ (∀ k, k < m2 → gR (sI (sRr G3 e' (va_cpy (gR G3 t) (gR G3 e') 0 0 m2)) a 2 (nI m2)) e' k = gR G e2 k) ∧
        OKE (sI (sRr G3 e' (va_cpy (gR G3 t) (gR G3 e') 0 0 m2)) a 2 (nI m2)) e' (gN G3 e') := by
      intro G3 e' c1 c2 c3 c4 c5 c6 c7 c8 c9 c10 c11 c12 c13 c14 c15
      refine ⟨s_alPut c1 c2 c4 (by omega) c5 (by omega) (by rw [c6]; exact ha) (by rw [c6]; exact c7) c8, ⟨c1, ?_, sI_Is, c4, c5, by omega⟩, c13, fun k hk => ?_, fun k hk => ?_⟩
      · show gR (sRr G3 e' _) a 1 = _
        rw [sRr_o c10]; exact c12
      · show gR (sRr G3 e' _) e' k = _
        rw [sRr_s]
        unfold va_cpy
        rw [if_pos (by omega), show 0 + (k - 0) = k by omega]
        exact c9 k hk
      · show match gR (sRr G3 e' _) e' k with | none => True | some q => okA 110 (gT G3 q) = true ∧ q < gX G3
        rw [sRr_s]
        unfold va_cpy
        by_cases y : k < m2
        · rw [if_pos (by omega), show 0 + (k - 0) = k by omega]; exact c8 k y
        · rw [if_neg (by omega)]; exact c14 k hk
    by_cases q2 : m2 ≤ gN G e
    · have hbe : gB G ≤ e := by
        rcases hE.2.2 with ⟨-, z⟩ | ⟨z, -⟩
        · omega
        · exact z
      obtain ⟨g1, g2, g3, g4, g5⟩ := hfin G2 e b1 b6 b7 b4 (by omega) f2.B hbe bO b8 (fun z => hea z.symm) (fun z => het z.symm) b2 bE bOe (by omega)
      refine ⟨1, _, e, ?_, ?_, g2, g3, by show e < gX G2; omega, g4, g5, Or.inl rfl, ?_, bAN, ?_⟩
      · rw [← g1]
        have e6 : nI m2 ≤ nI (gN G e) := by rw [nI_leI (by omega) (by have := hE.2.1; omega)]; exact q2
        simp [x318_0, x318_1_13, x318_1_19, x318_1_22, x318_6, x318_7, x318_8, x318_9, x318_12, x318_13, x318_14, x318_17, x318_18, x318_19, x318_20, x318_21, x318_24, x318_25, x318_26, x318_27, x318_28, x318_31, x318_32, x318_34, x318_35, x318_36, x318_39, x318_40, x318_42, x318_43, x318_46, x318_47, x318_49, x318_50, x318_51, x318_54, rf_ref, rf_va, rf_null, c1_int, c1_ref, c1_UV, rvo_n, rvo_r, c1_null, c1_va, up_s, up_o, va_rf_some, va_rf_none, litA, litB, litM, nI_add, okZ_0, okZ_1, okZ_zb, zb_0, gB_add, inb_lit, cl_lit, Nat.lt_irrefl, ↓reduceIte, if_true, if_false, RP_v, RP_n, nv_A, nv_B, nv_S, nv_X, sI_A, sI_B, sI_J, sI_N, sI_R, sI_S, sI_T, sI_X, sIr_A, sIr_B, sIr_J, sIr_N, sIr_R, sIr_S, sIr_T, sIr_X, sJ_A, sJ_B, sJ_I, sJ_N, sJ_R, sJ_S, sJ_T, sJ_X, sR_A, sR_B, sR_I, sR_J, sR_N, sR_S, sR_T, sR_X, sRr_A, sRr_B, sRr_I, sRr_J, sRr_N, sRr_S, sRr_T, sRr_X, h2.1, sa, ← ht, j1, j2, ← hG2, b1, b2, b3, b4, b5, b6, b7, q1, e5, e6]
      · exact ((f2.trans Fr_sRr).trans Fr_sI).mono (fun q _ z => by
          rcases z with (z | z) | z
          · exact Or.inl z
          · exact Or.inr ⟨z, hbe⟩
          · exact Or.inl z) (by omega) (by omega)
      · intro k hk
        show gR (sRr G2 e _) a k = _
        rw [sRr_o (fun z => hea z.symm)]; exact bA k hk
      · intro k h0 h1
        rw [sI_Ik h1]; exact bA2 k h0
    · have e6 : ¬ nI m2 ≤ nI (gN G e) := by rw [nI_leI (by omega) (by have := hE.2.1; omega)]; exact q2
      have sg := fun d => s_alGrow (d := d) (mc := m2) (m := 0) (G := G2) ⟨b1, b2, b3, b4, Nat.zero_le _, by omega⟩ bE (by omega) (by omega) (by omega) (by rw [f2.B]; exact ha) (by omega) (by omega) (by rw [f2.B]; omega) bOe
      obtain ⟨e', he'⟩ : ∃ e', e' = gX G2 := ⟨_, rfl⟩
      obtain ⟨L, hL⟩ : ∃ L, L = gwL (gN G2 e) m2 := ⟨_, rfl⟩
      have hLm : m2 ≤ L ∧ 10 ≤ L ∧ L ≤ 60 := by
        rw [hL, b5]
        unfold gwL
        have := hE.2.1
        rcases hE.2.2 with ⟨-, z⟩ | ⟨-, -, z⟩
        · rw [if_pos z]; omega
        · rw [if_neg (by omega)]; omega
      obtain ⟨G3, hG3⟩ : ∃ G3, G3 = sR (sRr (nw G2 110 L) e' (va_cpy (gR G2 e) (fun _ => none) 0 0 (gN G2 e))) a 1 (some e') := ⟨_, rfl⟩
      rw [← he', ← hL, ← hG3] at sg
      have hae' : ¬ a = e' := by omega
      have hte' : ¬ t = e' := by omega
      have f3 : Fr (fun q => q = a) 2 (m2 + L) G G3 := by
        rw [hG3]
        exact (((f2.trans Fr_nw).trans Fr_sRr).trans Fr_sR).mono (fun q hq z => by
          rcases z with ((z | z) | z) | z
          · exact z
          · exact absurd z id
          · omega
          · exact z) (by omega) (by omega)
      have c1 : gT G3 a = 13 := by rw [hG3]; show gT (nw G2 110 L) a = _; rw [nv_T (by omega)]; exact b1
      have c2 : gT G3 t = 110 := by rw [hG3]; show gT (nw G2 110 L) t = _; rw [nv_T (by omega)]; exact b6
      have c3 : gN G3 t = m2 := by rw [hG3]; show gN (nw G2 110 L) t = _; rw [nv_N (by omega)]; exact b7
      have c4 : gT G3 e' = 110 := by rw [hG3, he']; exact nv_Ts (n := L)
      have c5 : gN G3 e' = L := by rw [hG3, he']; exact nv_Ns (t := 110)
      have cR : ∀ q k, ¬ q = a → ¬ q = e' → gR G3 q k = gR G2 q k := fun q k h1 h2 => by
        rw [hG3, sR_Ra h1, sRr_o h2]
        exact nv_R (by omega)
      have cT : ∀ q, q < gX G2 → gT G3 q = gT G2 q := fun q hq => by rw [hG3]; show gT (nw G2 110 L) q = _; exact nv_T (by omega)
      have c15 : gX G3 = gX G2 + 1 := by rw [hG3]; rfl
      have c8 : OKE G3 t m2 := fun k hk => by
        rw [cR t k (fun z => hat z.symm) hte']
        have := bO k hk
        cases hq : gR G2 t k with
        | none => trivial
        | some q => rw [hq] at this; exact ⟨by rw [cT q this.2]; exact this.1, by have := this.2; omega⟩
      have c12 : gR G3 a 1 = some e' := by rw [hG3]; exact sR_Rs
      have c14 : OKE G3 e' (gN G3 e') := fun k hk => by
        have : gR G3 e' k = va_cpy (gR G2 e) (fun _ => none) 0 0 (gN G2 e) k := by
          rw [hG3, sR_Ra (fun z => hae' z.symm), sRr_s]
        rw [this]
        unfold va_cpy
        by_cases y : k < gN G2 e
        · rw [if_pos (by omega), show 0 + (k - 0) = k by omega]
          have := bOe k y
          cases hq : gR G2 e k with
          | none => trivial
          | some q => rw [hq] at this; exact ⟨by rw [cT q this.2]; exact this.1, by have := this.2; omega⟩
        · rw [if_neg (by omega)]; trivial
      have c13 : EL G3 e' := ⟨c4, by omega, Or.inr ⟨by rw [f3.B]; omega, by
        rw [f3.A]
        intro z
        omega, by omega⟩⟩
      obtain ⟨g1, g2, g3, g4, g5⟩ := hfin G3 e' c1 c2 c3 c4 (by omega) f3.B (by omega) c8 (fun k hk => by rw [cR t k (fun z => hat z.symm) hte']; exact b8 k hk) hae' hte' c12 c13 c14 (by omega)
      refine ⟨1, _, e', ?_, ?_, g2, g3, by show e' < gX G3; omega, g4, g5, Or.inr (by omega), ?_, ?_, ?_⟩
      · rw [← g1]
        simp [x318_0, x318_1_13, x318_1_19, x318_1_22, x318_6, x318_7, x318_8, x318_9, x318_12, x318_13, x318_14, x318_17, x318_18, x318_19, x318_20, x318_21, x318_24, x318_25, x318_26, x318_27, x318_28, x318_31, x318_32, x318_34, x318_35, x318_36, x318_39, x318_40, x318_42, x318_43, x318_46, x318_47, x318_49, x318_50, x318_51, x318_54, rf_ref, rf_va, rf_null, c1_int, c1_ref, c1_UV, rvo_n, rvo_r, c1_null, c1_va, up_s, up_o, va_rf_some, va_rf_none, litA, litB, litM, nI_add, okZ_0, okZ_1, okZ_zb, zb_0, gB_add, inb_lit, cl_lit, Nat.lt_irrefl, ↓reduceIte, if_true, if_false, RP_v, RP_n, nv_A, nv_B, nv_S, nv_X, sI_A, sI_B, sI_J, sI_N, sI_R, sI_S, sI_T, sI_X, sIr_A, sIr_B, sIr_J, sIr_N, sIr_R, sIr_S, sIr_T, sIr_X, sJ_A, sJ_B, sJ_I, sJ_N, sJ_R, sJ_S, sJ_T, sJ_X, sR_A, sR_B, sR_I, sR_J, sR_N, sR_S, sR_T, sR_X, sRr_A, sRr_B, sRr_I, sRr_J, sRr_N, sRr_S, sRr_T, sRr_X, h2.1, sa, ← ht, j1, j2, ← hG2, b1, b2, b3, b4, b5, b6, b7, q1, e5, e6, sg]
      · exact ((f3.trans Fr_sRr).trans Fr_sI).mono (fun q hq z => by
          rcases z with (z | z) | z
          · exact Or.inl z
          · omega
          · exact Or.inl z) (by omega) (by omega)
      · intro k hk
        show gR (sRr G3 e' _) a k = _
        rw [sRr_o hae', hG3, sR_Rk hk]
        show gR (sRr (nw G2 110 L) e' _) a k = _
        rw [sRr_o hae', nv_R (by omega)]; exact bA k hk
      · show gN G3 a = _
        rw [hG3]; show gN (nw G2 110 L) a = _
        rw [nv_N (by omega)]; exact bAN
      · intro k h0 h1
        rw [sI_Ik h1]
        show gI G3 a k = _
        rw [hG3]; show gI (nw G2 110 L) a k = _
        rw [nv_I (by omega)]; exact bA2 k h0
end

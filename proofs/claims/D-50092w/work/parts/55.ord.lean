/-! a row of ints anew -/
section
variable {G : Hp} {a : Nat} {f g : Rw}
theorem sIr_T {x : Nat} : gT (sIr G a f) x = gT G x := id rfl
theorem sIr_N {x : Nat} : gN (sIr G a f) x = gN G x := id rfl
theorem sIr_R {x k : Nat} : gR (sIr G a f) x k = gR G x k := id rfl
theorem sIr_B : gB (sIr G a f) = gB G := id rfl
theorem sIr_A {i : Nat} : gA (sIr G a f) i = gA G i := id rfl
theorem sIr_s {k : Nat} : gI (sIr G a f) a k = f k := congrFun (if_pos rfl) k
theorem sIr_o {x k : Nat} (h : ¬ x = a) : gI (sIr G a f) x k = gI G x k := congrFun (if_neg h) k
theorem sI_sIr {k : Nat} {v : Int32} : sI (sIr G a f) a k v = sIr G a (va_up f k v) := by
  unfold sI sIr
  dsimp only
  rw [up2_upr, upr_upr]
  congr 3
  unfold upr
  rw [if_pos rfl]
theorem sI_Ir {k : Nat} {v : Int32} : sI G a k v = sIr G a (va_up (gI G a) k v) := by
  unfold sI sIr
  rw [up2_upr]; rfl
theorem sIr_sIr : sIr (sIr G a f) a g = sIr G a g := by
  unfold sIr
  dsimp only
  rw [upr_upr]
theorem sIr_id : sIr G a (gI G a) = G := by
  unfold sIr
  have : upr G.2.2.1 a (gI G a) = G.2.2.1 := upr_self _ _
  rw [this]
theorem SHH.row {q x K A : Nat} {c w r : Rw} (h : SHH G q c w r K A) (hx : ∀ j, j < 4 → ¬ q + j = x) : SHH (sIr G x f) q c w r K A := by
  obtain ⟨qT, qR0, qR1, qR2, qT1, qT2, qT3, qN1, qN2, qN3, qK, qP, qF, qB, hK, hA, hw, hB⟩ := h
  have e1 := hx 1 (by omega)
  have e2 := hx 2 (by omega)
  have e3 := hx 3 (by omega)
  have e0 : ¬ q = x := hx 0 (by omega)
  exact ⟨qT, qR0, qR1, qR2, qT1, qT2, qT3, qN1, qN2, qN3, by rw [sIr_o e0]; exact qK, fun k hk => by rw [sIr_o e1]; exact qP k hk, fun k p hk hp => by rw [sIr_o e2]; exact qF k p hk hp, fun k l hk hl => by rw [sIr_o e3]; exact qB k l hk hl, hK, hA, hw, hB⟩
end
/-! PLAIN LAW: insertion -/
def shf (F : Rw) (m j : Nat) : Rw := fun p => if j < p ∧ p ≤ m then F (p - 1) else F p
theorem shf_m {F : Rw} {m : Nat} : shf F m m = F := by funext p; exact if_neg (by omega)
theorem shf_k {F : Rw} {m j : Nat} (h : j ≤ m) (h0 : 0 < j) : va_up (shf F m j) j (F (j - 1)) = shf F m (j - 1) := by
  funext p; unfold va_up shf
  by_cases e : p = j
  · subst e; rw [if_pos rfl, if_pos (by omega)]
  · rw [if_neg e]
    by_cases e2 : j < p ∧ p ≤ m
    · rw [if_pos e2, if_pos (by omega)]
    · rw [if_neg e2, if_neg (by omega)]
theorem SO.sub {K m : Nat} {b : Nat → Nat → Bool} (h : SO K b) (hm : m ≤ K) : SO m b := ⟨fun k hk => h.1 k (by omega), fun i j k hi hj hk => h.2.1 i j k (by omega) (by omega) (by omega), fun i j hi hj => h.2.2 i j (by omega) (by omega)⟩
/-- the classes below m in order -/
def Ins (b : Nat → Nat → Bool) (m : Nat) (F : Rw) : Prop := ∀ k, k < m → F (rk b k m) = nI k
def ipl (b : Nat → Nat → Bool) (m : Nat) : Nat := cnt (fun l => b l m) m
theorem cnt_congr {p q : Nat → Bool} {n : Nat} (h : ∀ k, k < n → p k = q k) : cnt p n = cnt q n := by
  induction n with
  | zero => rfl
  | succ n ih => unfold cnt; rw [ih (fun k hk => h k (by omega)), h n (by omega)]
theorem ipl_le {b : Nat → Nat → Bool} {m : Nat} : ipl b m ≤ m := cnt_le _ _
theorem ipl_iff {K m k : Nat} {b : Nat → Nat → Bool} (h : SO K b) (hm : m < K) (hk : k < m) : b m k = true ↔ ipl b m ≤ rk b k m := by
  constructor
  · intro hb
    unfold ipl rk
    refine cnt_mono fun l hl hbl => ?_
    have h1 := h.2.1 l m k (by omega) hm (by omega) hbl hb
    have h2 : ¬ l = k := fun e => by
      subst e
      have := h.1 l (by omega)
      rw [h1] at this; cases this
    simp [h1, h2]
  · intro hle
    rcases h.2.2 m k hm (by omega) (by omega) with z | z
    · exact z
    · exfalso
      have : rk b k m < ipl b m := by
        unfold ipl rk
        refine cnt_smono (j := k) (fun l hl hbl => ?_) hk (by simp) z
        rw [Bool.and_eq_true] at hbl
        exact h.2.1 l k m (by omega) (by omega) hm hbl.2 z
      omega
theorem Ins.step {K m : Nat} {b : Nat → Nat → Bool} {F : Rw} (h : SO K b) (hm : m < K) (hF : Ins b m F) : Ins b (m + 1) (va_up (shf F m (ipl b m)) (ipl b m) (nI m)) := by
  intro k hk
  by_cases e : k = m
  · subst e
    have : rk b k (k + 1) = ipl b k := by
      have e1 : (decide (¬ k = k) && b k k) = false := by simp
      show cnt (fun l => decide (¬ l = k) && b l k) k + (if (decide (¬ k = k) && b k k) = true then 1 else 0) = cnt (fun l => b l k) k
      rw [e1]
      simp only [Bool.false_eq_true, if_false, Nat.add_zero]
      exact cnt_congr fun l hl => by have : ¬ l = k := by omega
                                     simp [this]
    rw [this]; exact up_s
  · have hkm : k < m := by omega
    have hi := ipl_iff h hm hkm
    have hr : rk b k (m + 1) = rk b k m + if b m k = true then 1 else 0 := by
      show cnt _ (m + 1) = _
      unfold cnt
      have : (decide (¬ m = k) && b m k) = b m k := by simp; omega
      rw [this]; rfl
    have hlt := rk_lt (b := b) hkm
    rw [hr]
    by_cases q : b m k = true
    · have := hi.mp q
      rw [if_pos q, up_o (by omega)]
      unfold shf
      rw [if_pos (by omega), Nat.add_sub_cancel]
      exact hF k hkm
    · have : ¬ ipl b m ≤ rk b k m := fun z => q (hi.mpr z)
      rw [if_neg q, Nat.add_zero, up_o (by omega)]
      unfold shf
      rw [if_neg (by omega)]
      exact hF k hkm
/-! the component: a tally puts the classes in order -/
section
variable {d q wr ty : Nat} {G : Hp} {c w r : Rw} {K A : Nat}
set_option maxHeartbeats 4000000
set_option maxRecDepth 20000
theorem s_moreT {t k l : Nat} {n : Int32} (ht : t < 3) (hty : gT G ty = 2 + t) (h22 : gT G (gA G 22) = 2) (h : SHH G q c w r K A) (hk : k < K) (hl : l < K) (v4 : Value) :
    XP PP (d + 9) 107 27 [.ref ty, .ref q, .ref wr, .int (nI k), v4] [.int (nI l), .int (nI k), .ref q, .ref ty] G = XP PP (d + 9) 107 30 [.ref ty, .ref q, .ref wr, .int (nI k), v4] [.int (moF c w r K A t k l)] G := by
  have m1 := fun d => s_more1 (d := d) (ty := ty) h hk hl
  have m2 := fun d => s_more2 (d := d) (ty := ty) h hk hl
  have m3 := fun d => s_more3 (d := d) (ty := ty) h22 h hk hl
  rcases (by omega : t = 0 ∨ t = 1 ∨ t = 2) with e | e | e
  · subst e
    simp [x107_27_2, x107_27_3, x107_27_4, rf_ref, rf_va, rf_null, c1_int, c1_ref, c1_UV, rvo_n, rvo_r, c1_null, c1_va, up_s, up_o, va_rf_some, va_rf_none, litA, litB, litM, nI_add, okZ_0, okZ_1, okZ_zb, zb_0, gB_add, inb_lit, cl_lit, Nat.lt_irrefl, ↓reduceIte, if_true, if_false, RP_v, RP_n, hty, m1, moF]
  · subst e
    simp [x107_27_2, x107_27_3, x107_27_4, rf_ref, rf_va, rf_null, c1_int, c1_ref, c1_UV, rvo_n, rvo_r, c1_null, c1_va, up_s, up_o, va_rf_some, va_rf_none, litA, litB, litM, nI_add, okZ_0, okZ_1, okZ_zb, zb_0, gB_add, inb_lit, cl_lit, Nat.lt_irrefl, ↓reduceIte, if_true, if_false, RP_v, RP_n, hty, m2]
  · subst e
    simp [x107_27_2, x107_27_3, x107_27_4, rf_ref, rf_va, rf_null, c1_int, c1_ref, c1_UV, rvo_n, rvo_r, c1_null, c1_va, up_s, up_o, va_rf_some, va_rf_none, litA, litB, litM, nI_add, okZ_0, okZ_1, okZ_zb, zb_0, gB_add, inb_lit, cl_lit, Nat.lt_irrefl, ↓reduceIte, if_true, if_false, RP_v, RP_n, hty, m3]
theorem s_orderC {t : Nat} (ht : t < 3) (hty : gT G ty = 2 + t) (h22 : gT G (gA G 22) = 2) (h : SHH G q c w r K A) (hx : ∀ j, j < 4 → ¬ q + j = wr) (hT : gT G wr = 100) (hN : gN G wr = 5) (hb : gB G ≤ wr) :
    ∃ F, Ins (btr c w r K A (nI t)) K F ∧ (∀ p, K ≤ p → F p = gI G wr p) ∧ XP PP (d + 9) 107 0 [.ref ty, .ref q, .ref wr, UV, UV] [] G = some (.inl none, sIr G wr F) := by
  have h' := h
  obtain ⟨qT, qR0, qR1, qR2, qT1, qT2, qT3, qN1, qN2, qN3, qK, qP, qF, qB, hK, hA, hw, hB⟩ := h
  have hSO := btr_SO (c := c) (w := w) (r := r) (A := A) (t := nI t) hK
  have hin : ∀ m F, m < K → Ins (btr c w r K A (nI t)) m F → XP PP (d + 9) 107 13 [.ref ty, .ref q, .ref wr, .int (nI m), .int (nI m)] [] (sIr G wr F) = XP PP (d + 9) 107 2 [.ref ty, .ref q, .ref wr, .int (nI (m + 1)), .int (nI (ipl (btr c w r K A (nI t)) m))] [] (sIr G wr (va_up (shf F m (ipl (btr c w r K A (nI t)) m)) (ipl (btr c w r K A (nI t)) m) (nI m))) := by
    intro m F hm hF
    have hle : ipl (btr c w r K A (nI t)) m ≤ m := ipl_le
    have hl : XP PP (d + 9) 107 13 [.ref ty, .ref q, .ref wr, .int (nI m), .int (nI (m - 0))] [] (sIr G wr (shf F m (m - 0))) = XP PP (d + 9) 107 2 [.ref ty, .ref q, .ref wr, .int (nI (m + 1)), .int (nI (ipl (btr c w r K A (nI t)) m))] [] (sIr G wr (va_up (shf F m (ipl (btr c w r K A (nI t)) m)) (ipl (btr c w r K A (nI t)) m) (nI m))) := by
      refine XP_for (m - ipl (btr c w r K A (nI t)) m) (fun i => [.ref ty, .ref q, .ref wr, .int (nI m), .int (nI (m - i))]) (fun i => sIr G wr (shf F m (m - i))) ?_ ?_ 0 (Nat.zero_le _)
      · intro i hi
        have e0 : ¬ nI (m - i) ≤ 0 := by rw [show (0 : Int32) = nI 0 from rfl, nI_leI (by omega) (by omega)]; omega
        obtain ⟨k, hk, ek⟩ := rk_surj (hSO.sub (Nat.le_of_lt hm)) (p := m - i - 1) (by omega)
        have hFk : F (m - i - 1) = nI k := by rw [← ek]; exact hF k hk
        have hfk : shf F m (m - i) (m - i - 1) = nI k := by unfold shf; rw [if_neg (by omega)]; exact hFk
        have hbt : btr c w r K A (nI t) m k = true := (ipl_iff hSO hm hk).mpr (by omega)
        have hmo := mo_btr (c := c) (r := r) ht hK hA hw hB hm hk
        rw [hbt] at hmo
        have hmo' : ¬ moF c w r K A t m k ≤ 0 := Int32.not_le.mpr (of_decide_eq_true hmo)
        have sm := s_moreT (d := d) (wr := wr) (n := 0) ht (G := sIr G wr (shf F m (m - i))) (ty := ty) hty h22 (h'.row hx) hm (show k < K by omega) (.int (nI (m - i)))
        have s1 : nI (m - i) - 1 = nI (m - i - 1) := nI_sub (b := 1) (by omega)
        have s2 : nI (m - i) + -1 = nI (m - (i + 1)) := by rw [← Int32.sub_eq_add_neg, s1]; congr 1
        have i1 : inb (nI (m - i - 1)) 5 = true := inb_nI (by omega) (by omega)
        have i2 : (nI (m - i - 1)).toNatClampNeg = m - i - 1 := nI_clamp (by omega)
        have i3 : inb (nI (m - i)) 5 = true := inb_nI (by omega) (by omega)
        have i4 : (nI (m - i)).toNatClampNeg = m - i := nI_clamp (by omega)
        have s3 := shf_k (F := F) (m := m) (j := m - i) (by omega) (by omega)
        rw [hFk] at s3
        rw [show m - (i + 1) = m - i - 1 by omega] at s2
        show _ = XP PP (d + 9) 107 13 [.ref ty, .ref q, .ref wr, .int (nI m), .int (nI (m - (i + 1)))] [] (sIr G wr (shf F m (m - (i + 1))))
        rw [show m - (i + 1) = m - i - 1 by omega]
        refine Eq.trans (by first | exact x107_13 | exact x107_13 (rf_ref _) | exact x107_13 rfl) ?_
        simp [x107_15, x107_18, x107_19, x107_20, x107_21, x107_22, x107_24, x107_25, x107_26, x107_30, x107_33, x107_34, x107_36, x107_37, x107_39, x107_40, x107_41, x107_42, x107_43, x107_46, sIr_T, sIr_N, sIr_B, sIr_s, sI_sIr, rf_ref, rf_va, rf_null, c1_int, c1_ref, c1_UV, rvo_n, rvo_r, c1_null, c1_va, up_s, up_o, va_rf_some, va_rf_none, litA, litB, litM, nI_add, okZ_0, okZ_1, okZ_zb, zb_0, gB_add, inb_lit, cl_lit, Nat.lt_irrefl, ↓reduceIte, if_true, if_false, RP_v, RP_n, hT, hN, hb, e0, s1, s2, i1, i2, i3, i4, hfk, sm, hmo', s3]
      · have e1 : m - (m - ipl (btr c w r K A (nI t)) m) = ipl (btr c w r K A (nI t)) m := by omega
        rw [e1]
        obtain ⟨T, hTe⟩ : ∃ T, T = ipl (btr c w r K A (nI t)) m := ⟨_, rfl⟩
        rw [← hTe] at hle ⊢
        have i3 : inb (nI T) 5 = true := inb_nI (by omega) (by omega)
        have i4 : (nI T).toNatClampNeg = T := nI_clamp (by omega)
        by_cases z : T = 0
        · subst z
          have e0 : nI 0 ≤ 0 := by decide
          refine Eq.trans (by first | exact x107_13 | exact x107_13 (rf_ref _) | exact x107_13 rfl) ?_
          simp [x107_15, x107_49, x107_50, x107_52, x107_53, x107_54, x107_57, sIr_T, sIr_N, sIr_B, sIr_s, sI_sIr, rf_ref, rf_va, rf_null, c1_int, c1_ref, c1_UV, rvo_n, rvo_r, c1_null, c1_va, up_s, up_o, va_rf_some, va_rf_none, litA, litB, litM, nI_add, okZ_0, okZ_1, okZ_zb, zb_0, gB_add, inb_lit, cl_lit, Nat.lt_irrefl, ↓reduceIte, if_true, if_false, RP_v, RP_n, hT, hN, hb, e0, i3, i4, nI_1]
        · have e0 : ¬ nI T ≤ 0 := by rw [show (0 : Int32) = nI 0 from rfl, nI_leI (by omega) (by omega)]; omega
          obtain ⟨k, hk, ek⟩ := rk_surj (hSO.sub (Nat.le_of_lt hm)) (p := T - 1) (by omega)
          have hFk : F (T - 1) = nI k := by rw [← ek]; exact hF k hk
          have hfk : shf F m T (T - 1) = nI k := by unfold shf; rw [if_neg (by omega)]; exact hFk
          have hbt : ¬ btr c w r K A (nI t) m k = true := fun y => by have := (ipl_iff hSO hm hk).mp y; omega
          have hmo := mo_btr (c := c) (r := r) ht hK hA hw hB hm hk
          have hmo' : moF c w r K A t m k ≤ 0 := Int32.not_lt.mp (fun y => hbt (by rw [← hmo]; exact decide_eq_true y))
          have sm := s_moreT (d := d) (wr := wr) (n := 0) ht (G := sIr G wr (shf F m T)) (ty := ty) hty h22 (h'.row hx) hm (show k < K by omega) (.int (nI T))
          have s1 : nI T - 1 = nI (T - 1) := nI_sub (b := 1) (by omega)
          have i1 : inb (nI (T - 1)) 5 = true := inb_nI (by omega) (by omega)
          have i2 : (nI (T - 1)).toNatClampNeg = T - 1 := nI_clamp (by omega)
          refine Eq.trans (by first | exact x107_13 | exact x107_13 (rf_ref _) | exact x107_13 rfl) ?_
          simp [x107_15, x107_18, x107_19, x107_20, x107_21, x107_22, x107_24, x107_25, x107_26, x107_30, x107_33, x107_34, x107_36, x107_37, x107_39, x107_40, x107_41, x107_42, x107_43, x107_46, x107_49, x107_50, x107_52, x107_53, x107_54, x107_57, sIr_T, sIr_N, sIr_B, sIr_s, sI_sIr, rf_ref, rf_va, rf_null, c1_int, c1_ref, c1_UV, rvo_n, rvo_r, c1_null, c1_va, up_s, up_o, va_rf_some, va_rf_none, litA, litB, litM, nI_add, okZ_0, okZ_1, okZ_zb, zb_0, gB_add, inb_lit, cl_lit, Nat.lt_irrefl, ↓reduceIte, if_true, if_false, RP_v, RP_n, hT, hN, hb, e0, s1, i1, i2, i3, i4, hfk, sm, hmo', nI_1]
    rwa [Nat.sub_zero, shf_m] at hl
  have hl := XP_forY (P := PP) (d := d + 9) (y := 107) (pc := 2) K (fun m (e : Rw × Value) => Ins (btr c w r K A (nI t)) m e.1 ∧ (∀ p, K ≤ p → e.1 p = gI G wr p) ∧ c1 e.2 = true) (fun m e => [.ref ty, .ref q, .ref wr, .int (nI m), e.2]) (fun m e => sIr G wr e.1)
    (X := fun Z => ∃ F, Ins (btr c w r K A (nI t)) K F ∧ (∀ p, K ≤ p → F p = gI G wr p) ∧ Z = some (.inl none, sIr G wr F))
    (by
      intro m hm e ⟨he, hp, hc⟩
      have e1 : ¬ nI K ≤ nI m := nI_ge hm (by omega)
      have hle : ipl (btr c w r K A (nI t)) m ≤ m := ipl_le
      refine ⟨(va_up (shf e.1 m (ipl (btr c w r K A (nI t)) m)) (ipl (btr c w r K A (nI t)) m) (nI m), .int (nI (ipl (btr c w r K A (nI t)) m))), ⟨he.step hSO hm, fun p hp' => ?_, rfl⟩, ?_⟩
      · dsimp only
        rw [up_o (by omega)]
        unfold shf
        rw [if_neg (by omega)]
        exact hp p hp'
      · dsimp only
        have hi := hin m e.1 hm he
        have k1 : gI (sIr G wr e.1) q 3 = nI K := by
          have e0 : ¬ q = wr := hx 0 (by omega)
          rw [sIr_o e0]; exact qK
        refine Eq.trans (by first | exact x107_2 | exact x107_2 (rf_ref _) | exact x107_2 rfl) ?_
        simp [x107_3, x107_4, x107_7, x107_10, x107_11, sIr_T, rf_ref, rf_va, rf_null, c1_int, c1_ref, c1_UV, rvo_n, rvo_r, c1_null, c1_va, up_s, up_o, va_rf_some, va_rf_none, litA, litB, litM, nI_add, okZ_0, okZ_1, okZ_zb, zb_0, gB_add, inb_lit, cl_lit, Nat.lt_irrefl, ↓reduceIte, if_true, if_false, RP_v, RP_n, qT, k1, e1, hi])
    (by
      intro e ⟨he, hp, hc⟩
      refine ⟨e.1, he, hp, ?_⟩
      have k1 : gI (sIr G wr e.1) q 3 = nI K := by
        have e0 : ¬ q = wr := hx 0 (by omega)
        rw [sIr_o e0]; exact qK
      refine Eq.trans (by first | exact x107_2 | exact x107_2 (rf_ref _) | exact x107_2 rfl) ?_
      simp [x107_3, x107_4, x107_7, x107_60, sIr_T, rf_ref, rf_va, rf_null, c1_int, c1_ref, c1_UV, rvo_n, rvo_r, c1_null, c1_va, up_s, up_o, va_rf_some, va_rf_none, litA, litB, litM, nI_add, okZ_0, okZ_1, okZ_zb, zb_0, gB_add, inb_lit, cl_lit, Nat.lt_irrefl, ↓reduceIte, if_true, if_false, RP_v, RP_n, qT, k1])
    0 (Nat.zero_le _) (gI G wr, UV) ⟨fun k hk => by omega, fun p _ => rfl, rfl⟩
  rw [sIr_id] at hl
  obtain ⟨F, h1, h2, h3⟩ := hl
  refine ⟨F, h1, h2, ?_⟩
  rw [← h3]
  simp [x107_0, x107_1, rf_ref, rf_va, rf_null, c1_int, c1_ref, c1_UV, rvo_n, rvo_r, c1_null, c1_va, up_s, up_o, va_rf_some, va_rf_none, litA, litB, litM, nI_add, okZ_0, okZ_1, okZ_zb, zb_0, gB_add, inb_lit, cl_lit, Nat.lt_irrefl, ↓reduceIte, if_true, if_false, RP_v, RP_n]
  rfl
end

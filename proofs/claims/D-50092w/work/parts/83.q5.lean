/-! THE COMPONENT's questions: ballot, order, progress, request -/
section
variable {d b n x m K A z hn : Nat} {G : Hp} {s : Bs} {c w r : Rw} {ow : Nat → Nat} {hr : Nat → Rw} {sv : Option Rw}
set_option maxHeartbeats 4000000
set_option maxRecDepth 20000
theorem ix_u (hR : RI r K A n) {i : Nat} (hi : i < n) : fst (ixB r (r (118 + 6 * i))) n = some i := ser_fst (ix := fun k => k) (m := n) hR (fun k hk => hk) (fun j k h _ => h) hi
theorem ix_none {sr : Int32} (h : ∀ i, i < n → ¬ r (118 + 6 * i) = sr) : fst (ixB r sr) n = none := by
  cases e : fst (ixB r sr) n with
  | none => rfl
  | some i =>
    obtain ⟨a, b, -⟩ := fst_spec e
    exact absurd (of_decide_eq_true b) (h i a)
/-- what the search for a request answers -/
def findC (d : Nat) (G : Hp) (b : Nat) (s : Bs) (r : Rw) (n m : Nat) (sr : Int32) : Prop :=
    (fst (ixB r sr) n = none ∧ XP PP (d + 4) 132 0 [.ref b, .int sr, UV] [] (G) = some (.inl (some (.null)), G)) ∨
    ∃ i q, fst (ixB r sr) n = some i ∧ RQ G q r i ∧ RS G s m q ∧ XP PP (d + 4) 132 0 [.ref b, .int sr, UV] [] (G) = some (.inl (some (.ref q)), G) ∧ ((s.2.2.2.1 = some q ∧ r (118 + 6 * i) = r 8 ∧ s.1 0 19 = r (118 + 6 * i + 4)) ∨ (¬ s.2.2.2.1 = some q ∧ ¬ r (118 + 6 * i) = r 8))
theorem s_findC {sr : Int32} (i0 : isB G b s) (hBQ : BQ G b s r n m) (hR : RI r K A n) (hN : gN G s.2.2.2.2 < 2 ^ 31) : findC d G b s r n m sr := by
  have tb : gT G b = 6 := i0.T (j := 0) (by omega)
  have rb : ∀ k, gR G b k = bR (gA G) b s 0 k := fun k => i0.R (j := 0) (by omega)
  obtain ⟨ix, hwl, hix, -⟩ := hBQ.ix hR
  have hX : BX G b s r m ix := ⟨hBQ.1, hBQ.2.1, hBQ.2.2.1, hN, hBQ.2.2.2.2.1, hBQ.2.2.2.2.2.1, hwl⟩
  have sp := fun d => s_busPlace (d := d) (x := sr) hX
  rw [isB_bst i0] at sp
  have hal := BQ.AL i0 hBQ
  have hm40 : m ≤ 40 := hBQ.2.2.2.2.2.1
  -- without the present one
  have key : (∀ q i, s.2.2.2.1 = some q → RQ G q r i → ¬ r (118 + 6 * i) = sr) → (∀ q i, s.2.2.2.1 = some q → RQ G q r i → i < n → r (118 + 6 * i) = r 8) → (s.2.2.2.1 = none ∨ ∃ q i, s.2.2.2.1 = some q ∧ RQ G q r i ∧ i < n) → (∀ d, XP PP (d + 4) 132 0 [.ref b, .int sr, UV] [] G = XP PP (d + 4) 132 23 [.ref b, .int sr, UV] [] G) → findC d G b s r n m sr := by
    intro k1 k2 k3 k4
    cases e : fst (fun k => decide (r (118 + 6 * ix k) = sr)) m with
    | none =>
      left
      have hno : ∀ i, i < n → ¬ r (118 + 6 * i) = sr := fun i hi hs => by
        by_cases y : wtB r i = true
        · obtain ⟨k, hk, hk2⟩ := (hix.2.2 i hi).mp y
          have := fst_none e k hk
          rw [hk2, decide_eq_true hs] at this
          cases this
        · unfold wtB at y
          have y' : r (118 + 6 * i) = r 8 := by simpa using y
          rcases k3 with z | ⟨q, i', z1, z2, z3⟩
          · rcases hBQ.2.2.2.2.2.2 with ⟨-, a2, -⟩ | ⟨q, i, a1, -⟩
            · exact hR.ser1 hi (y'.trans a2)
            · rw [z] at a1; cases a1
          · have := k2 q i' z1 z2 z3
            have hii : i = i' := hR.serI hi z3 (y'.trans this.symm)
            subst hii
            exact k1 q i z1 z2 hs
      refine ⟨ix_none hno, ?_⟩
      rw [e] at sp
      rw [k4 d]
      simp [x132_23, x132_24, x132_25, x132_28, x132_29, x132_30, x132_31, x132_34, x132_35, x132_38, x132_39, x132_42, x132_43_13, x132_43_19, x132_48, x132_48n, x132_51, rf_ref, rf_va, rf_null, c1_int, c1_ref, c1_UV, rvo_n, rvo_r, c1_null, c1_va, up_s, up_o, va_rf_some, va_rf_none, litA, litB, litM, nI_add, okZ_0, okZ_1, okZ_zb, zb_0, gB_add, inb_lit, cl_lit, Nat.lt_irrefl, ↓reduceIte, if_true, if_false, RP_v, RP_n, tb, rb, bR, sp, oI]
    | some j =>
      right
      obtain ⟨hj, hj2, -⟩ := fst_spec e
      have hj3 : r (118 + 6 * ix j) = sr := of_decide_eq_true hj2
      obtain ⟨q, w1, w2, w3⟩ := hwl j hj
      rw [e] at sp
      have sg := fun d => s_alGet (d := d) hal hj hN
      rw [w1] at sg
      have e1 : ¬ nI j = -1 := nI_ne1 (by omega)
      have ei := ix_u hR (hix.1 j hj)
      rw [hj3] at ei
      have hw : wtB r (ix j) = true := (hix.2.2 (ix j) (hix.1 j hj)).mpr ⟨j, hj, rfl⟩
      unfold wtB at hw
      refine ⟨ix j, q, ei, w3, Or.inr ⟨j, hj, w1⟩, ?_, Or.inr ⟨fun z => ?_, of_decide_eq_true hw⟩⟩
      · rw [k4 d]
        have tq : ([11] : List Nat).contains (gT G q) = true := by rw [w3.1]; rfl
        have l48 := fun d st => x132_48 (d := d) (v0 := .ref b) (v1 := .int sr) (v2 := .int (nI j)) (st := st) tq
        simp [x132_23, x132_24, x132_25, x132_28, x132_29, x132_30, x132_31, x132_34, x132_35, x132_38, x132_39, x132_42, x132_43_13, x132_43_19, x132_51, l48, rf_ref, rf_va, rf_null, c1_int, c1_ref, c1_UV, rvo_n, rvo_r, c1_null, c1_va, up_s, up_o, va_rf_some, va_rf_none, litA, litB, litM, nI_add, okZ_0, okZ_1, okZ_zb, zb_0, gB_add, inb_lit, cl_lit, Nat.lt_irrefl, ↓reduceIte, if_true, if_false, RP_v, RP_n, tb, rb, bR, sp, oI, e1, hal.1, sg]
      · exact k1 q (ix j) z w3 hj3
  rcases hBQ.2.2.2.2.2.2 with ⟨a1, a2, a3, a4⟩ | ⟨q, i, a1, a2, a3, a4, a5, a6, a7, a8⟩
  · refine key (fun q i z => ?_) (fun q i z => ?_) (Or.inl a1) (fun d => ?_)
    · rw [a1] at z; cases z
    · rw [a1] at z; cases z
    · simp [x132_0, x132_1, x132_4n, x132_4r, x132_7, x132_8, x132_11, x132_14, x132_15, x132_18, x132_19, x132_22, rf_ref, rf_va, rf_null, c1_int, c1_ref, c1_UV, rvo_n, rvo_r, c1_null, c1_va, up_s, up_o, va_rf_some, va_rf_none, litA, litB, litM, nI_add, okZ_0, okZ_1, okZ_zb, zb_0, gB_add, inb_lit, cl_lit, Nat.lt_irrefl, ↓reduceIte, if_true, if_false, RP_v, RP_n, tb, rb, bR, a1]
  · have hu : ∀ q' i', s.2.2.2.1 = some q' → RQ G q' r i' → r (118 + 6 * i') = r 8 := fun q' i' z1 z2 => by
      rw [a1] at z1; cases z1
      rw [← z2.2.1, a6.2.1]; exact a3
    by_cases y : r 8 = sr
    · right
      have ei := ix_u hR a2
      rw [a3, y] at ei
      refine ⟨i, q, ei, a6, Or.inl a1, ?_, Or.inl ⟨a1, a3, a7⟩⟩
      simp [x132_0, x132_1, x132_4n, x132_4r, x132_7, x132_8, x132_11, x132_14, x132_15, x132_18, x132_19, x132_22, rf_ref, rf_va, rf_null, c1_int, c1_ref, c1_UV, rvo_n, rvo_r, c1_null, c1_va, up_s, up_o, va_rf_some, va_rf_none, litA, litB, litM, nI_add, okZ_0, okZ_1, okZ_zb, zb_0, gB_add, inb_lit, cl_lit, Nat.lt_irrefl, ↓reduceIte, if_true, if_false, RP_v, RP_n, tb, rb, bR, a1, a6.1, a6.2.1, a3, y]
    · refine key (fun q' i' z1 z2 => ?_) (fun q' i' z1 z2 _ => hu q' i' z1 z2) (Or.inr ⟨q, i, a1, a6, a2⟩) (fun d => ?_)
      · rw [hu q' i' z1 z2]; exact y
      · simp [x132_0, x132_1, x132_4n, x132_4r, x132_7, x132_8, x132_11, x132_14, x132_15, x132_18, x132_19, x132_22, rf_ref, rf_va, rf_null, c1_int, c1_ref, c1_UV, rvo_n, rvo_r, c1_null, c1_va, up_s, up_o, va_rf_some, va_rf_none, litA, litB, litM, nI_add, okZ_0, okZ_1, okZ_zb, zb_0, gB_add, inb_lit, cl_lit, Nat.lt_irrefl, ↓reduceIte, if_true, if_false, RP_v, RP_n, tb, rb, bR, a1, a6.1, a6.2.1, a3, y]
end

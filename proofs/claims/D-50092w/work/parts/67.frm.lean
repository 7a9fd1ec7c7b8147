/-! cells that are as they were; frames -/
def sameC (G G' : Hp) (a : Nat) : Prop := gT G' a = gT G a ∧ gN G' a = gN G a ∧ (∀ k, gI G' a k = gI G a k) ∧ (∀ k, gJ G' a k = gJ G a k) ∧ ∀ k, gR G' a k = gR G a k
theorem sameC.refl (G : Hp) (a : Nat) : sameC G G a := ⟨rfl, rfl, fun _ => rfl, fun _ => rfl, fun _ => rfl⟩
theorem sameC.trans {G G1 G2 : Hp} {a : Nat} (h : sameC G G1 a) (h2 : sameC G1 G2 a) : sameC G G2 a := ⟨h2.1.trans h.1, h2.2.1.trans h.2.1, fun k => (h2.2.2.1 k).trans (h.2.2.1 k), fun k => (h2.2.2.2.1 k).trans (h.2.2.2.1 k), fun k => (h2.2.2.2.2 k).trans (h.2.2.2.2 k)⟩
theorem sameC.symm {G G1 : Hp} {a : Nat} (h : sameC G G1 a) : sameC G1 G a := ⟨h.1.symm, h.2.1.symm, fun k => (h.2.2.1 k).symm, fun k => (h.2.2.2.1 k).symm, fun k => (h.2.2.2.2 k).symm⟩
/-- P: what may be written; x cells, y slots more at most -/
def Fr (P : Nat → Prop) (x y : Nat) (G G' : Hp) : Prop := gK G' = gK G ∧ gX G ≤ gX G' ∧ gX G' ≤ gX G + x ∧ gS G ≤ gS G' ∧ gS G' ≤ gS G + y ∧ ∀ a, a < gX G → ¬ P a → sameC G G' a
section
variable {G G1 G2 : Hp} {P Q : Nat → Prop} {x y x' y' : Nat}
theorem Fr.refl : Fr P 0 0 G G := ⟨rfl, Nat.le_refl _, by omega, Nat.le_refl _, by omega, fun a _ _ => sameC.refl G a⟩
theorem Fr.trans (h : Fr P x y G G1) (h2 : Fr Q x' y' G1 G2) : Fr (fun a => P a ∨ Q a) (x + x') (y + y') G G2 := by
  obtain ⟨a1, a2, a3, a4, a5, a6⟩ := h
  obtain ⟨b1, b2, b3, b4, b5, b6⟩ := h2
  exact ⟨b1.trans a1, by omega, by omega, by omega, by omega, fun a ha hp => (a6 a ha (fun z => hp (Or.inl z))).trans (b6 a (by omega) (fun z => hp (Or.inr z)))⟩
theorem Fr.mono (h : Fr P x y G G1) (hp : ∀ a, a < gX G → P a → Q a) (hx : x ≤ x') (hy : y ≤ y') : Fr Q x' y' G G1 := by
  obtain ⟨a1, a2, a3, a4, a5, a6⟩ := h
  exact ⟨a1, a2, by omega, a4, by omega, fun a ha hq => a6 a ha (fun z => hq (hp a ha z))⟩
theorem Fr.B (h : Fr P x y G G1) : gB G1 = gB G := congrArg Prod.fst h.1
theorem Fr.A (h : Fr P x y G G1) (i : Nat) : gA G1 i = gA G i := congrFun (congrArg Prod.snd h.1) i
theorem Fr.s (h : Fr P x y G G1) {a : Nat} (ha : a < gX G) (hp : ¬ P a) : sameC G G1 a := h.2.2.2.2.2 a ha hp
theorem Fr_sI {a k : Nat} {v : Int32} : Fr (fun q => q = a) 0 0 G (sI G a k v) := ⟨rfl, Nat.le_refl _, by show gX G ≤ _; omega, Nat.le_refl _, by show gS G ≤ _; omega, fun b _ hb => ⟨rfl, rfl, fun j => sI_Ia hb, fun _ => rfl, fun _ => rfl⟩⟩
theorem Fr_sIr {a : Nat} {f : Rw} : Fr (fun q => q = a) 0 0 G (sIr G a f) := ⟨rfl, Nat.le_refl _, by show gX G ≤ _; omega, Nat.le_refl _, by show gS G ≤ _; omega, fun b _ hb => ⟨rfl, rfl, fun j => sIr_o hb, fun _ => rfl, fun _ => rfl⟩⟩
theorem Fr_sR {a k : Nat} {v : Option Nat} : Fr (fun q => q = a) 0 0 G (sR G a k v) := ⟨rfl, Nat.le_refl _, by show gX G ≤ _; omega, Nat.le_refl _, by show gS G ≤ _; omega, fun b _ hb => ⟨rfl, rfl, fun _ => rfl, fun _ => rfl, fun j => sR_Ra hb⟩⟩
theorem Fr_sRr {a : Nat} {f : Nat → Option Nat} : Fr (fun q => q = a) 0 0 G (sRr G a f) := ⟨rfl, Nat.le_refl _, by show gX G ≤ _; omega, Nat.le_refl _, by show gS G ≤ _; omega, fun b _ hb => ⟨rfl, rfl, fun _ => rfl, fun _ => rfl, fun j => sRr_o hb⟩⟩
theorem Fr_nw {t n : Nat} : Fr (fun _ => False) 1 n G (nw G t n) := ⟨rfl, by show _ ≤ gX G + 1; omega, by show gX G + 1 ≤ _; omega, by show _ ≤ gS G + n; omega, by show gS G + n ≤ _; omega, fun b hb _ => by
  have h : ¬ b = gX G := by omega
  exact ⟨nv_T h, nv_N h, fun _ => nv_I h, fun _ => nv_J h, fun _ => nv_R h⟩⟩
theorem Fr_ub {T N : Nat → Nat} {n S : Nat} {U : IF} {V : RF} (hS : gS G ≤ S) : Fr (fun _ => False) n (S - gS G) G (ub T N G (gX G) n S U V) := ⟨rfl, by show _ ≤ gX G + n; omega, by show gX G + n ≤ _; omega, hS, by show S ≤ _; omega, fun b hb _ => by
  have h : inU (gX G) n b = false := inU_f.mpr (Or.inl hb)
  exact ⟨ub_Tr h, ub_Nr h, fun _ => ub_Ir h, fun _ => ub_Jr h, fun _ => ub_Rr h⟩⟩
theorem sameC_bst {b a : Nat} {s : Bs} (h : inB b a = false) : sameC G (bst G b s) a := ⟨bst_Tr h, bst_Nr h, fun _ => bst_Ir h, fun _ => rfl, fun _ => bst_Rr h⟩
theorem SU.same {z K A : Nat} {c w : Rw} (h : SU G z c w K A) (e : ∀ j, j < 8 → sameC G G1 (z + j)) : SU G1 z c w K A := by
  obtain ⟨zT, zR0, zR1, zR2, zR3, zR4, zR5, zR6, zT1, zT2, zT5, zT6, zT7, zN5, zN6, zN7, zK, zA, zW, zc3, zc4, zc5, zc6, zc7⟩ := h
  obtain ⟨t0, -, i0, -, r0⟩ := e 0 (by omega)
  obtain ⟨t1, -, i1, -, -⟩ := e 1 (by omega)
  obtain ⟨t2, -, i2, -, -⟩ := e 2 (by omega)
  obtain ⟨t5, n5, -, -, -⟩ := e 5 (by omega)
  obtain ⟨t6, n6, -, -, -⟩ := e 6 (by omega)
  obtain ⟨t7, n7, i7, -, -⟩ := e 7 (by omega)
  exact ⟨t0.trans zT, (r0 0).trans zR0, (r0 1).trans zR1, (r0 2).trans zR2, (r0 3).trans zR3, (r0 4).trans zR4, (r0 5).trans zR5, (r0 6).trans zR6, t1.trans zT1, t2.trans zT2, t5.trans zT5, t6.trans zT6, t7.trans zT7, n5.trans zN5, n6.trans zN6, n7.trans zN7, (i1 4).trans zK, (i2 4).trans zA, fun a ha => (i7 a).trans (zW a ha), (i0 8).trans zc3, (i0 9).trans zc4, (i0 10).trans zc5, (i0 11).trans zc6, (i0 12).trans zc7⟩
theorem RQ.same {q i : Nat} {r : Rw} (h : RQ G q r i) (e : sameC G G1 q) : RQ G1 q r i := by
  obtain ⟨h1, h2, h3, h4, h5, h6⟩ := h
  obtain ⟨t, n, i, j, r⟩ := e
  exact ⟨t.trans h1, (i 0).trans h2, (i 1).trans h3, (i 2).trans h4, (i 3).trans h5, (i 4).trans h6⟩
/-- a block as it's read -/
def isB (G : Hp) (b : Nat) (s : Bs) : Prop := ∀ j, j < 21 → gT G (b + j) = bT j ∧ gN G (b + j) = bN j ∧ (∀ k, gI G (b + j) k = s.1 j k) ∧ ∀ k, gR G (b + j) k = bR (gA G) b s j k
theorem bst_isB {b : Nat} {s : Bs} : isB (bst G b s) b s := fun j hj => ⟨bst_T hj, bst_N hj, fun k => bst_I hj, fun k => bst_R hj⟩
theorem isB_bst {b : Nat} {s : Bs} (h : isB G b s) : bst G b s = G := by
  unfold bst
  have hx : ∀ a, inB b a = true → ∃ j, j < 21 ∧ a = b + j := fun a ha => by
    unfold inB at ha
    simp only [Bool.and_eq_true, decide_eq_true_eq] at ha
    exact ⟨a - b, by omega, by omega⟩
  refine Prod.ext (funext fun a => ?_) (Prod.ext (funext fun a => ?_) (Prod.ext (funext fun a => funext fun k => ?_) (Prod.ext rfl (Prod.ext (funext fun a => funext fun k => ?_) rfl))))
  · show (if inB b a = true then _ else _) = _
    by_cases hi : inB b a = true
    · obtain ⟨j, hj, rfl⟩ := hx a hi
      rw [if_pos hi, Nat.add_sub_cancel_left]; exact (h j hj).1.symm
    · rw [if_neg hi]
  · show (if inB b a = true then _ else _) = _
    by_cases hi : inB b a = true
    · obtain ⟨j, hj, rfl⟩ := hx a hi
      rw [if_pos hi, Nat.add_sub_cancel_left]; exact (h j hj).2.1.symm
    · rw [if_neg hi]
  · show (if inB b a = true then _ else _) = _
    by_cases hi : inB b a = true
    · obtain ⟨j, hj, rfl⟩ := hx a hi
      rw [if_pos hi, Nat.add_sub_cancel_left]; exact ((h j hj).2.2.1 k).symm
    · rw [if_neg hi]
  · show (if inB b a = true then _ else _) = _
    by_cases hi : inB b a = true
    · obtain ⟨j, hj, rfl⟩ := hx a hi
      rw [if_pos hi, Nat.add_sub_cancel_left]; exact ((h j hj).2.2.2 k).symm
    · rw [if_neg hi]
theorem isB.same {b : Nat} {s : Bs} (h : isB G b s) (hA : ∀ i, gA G1 i = gA G i) (e : ∀ j, j < 21 → sameC G G1 (b + j)) : isB G1 b s := fun j hj => by
  obtain ⟨t, n, i, -, r⟩ := e j hj
  obtain ⟨h1, h2, h3, h4⟩ := h j hj
  have : gA G1 = gA G := funext hA
  exact ⟨t.trans h1, n.trans h2, fun k => (i k).trans (h3 k), fun k => by rw [r k, h4 k, this]⟩
end

/-! THE TWIN's world: one object of 18 cells, from o on; its numbers in mu: ints by cell and place, longs by cell and place -/
def mT (j : Nat) : Nat := [8, 100, 101, 101, 100, 100, 100, 100, 100, 100, 100, 100, 102, 100, 100, 101, 101, 102].getD j 0
def mN (j : Nat) : Nat := [42, 8, 5, 8, 718, 718, 718, 718, 718, 5744, 5, 5, 500, 5, 8, 5, 8, 60].getD j 0
def mR (o j k : Nat) : Option Nat := if j = 0 then (match k with
  | 8 => some (o + 1) | 9 => some (o + 2) | 10 => some (o + 3) | 11 => some (o + 4) | 12 => some (o + 5) | 13 => some (o + 6) | 14 => some (o + 7) | 15 => some (o + 8) | 16 => some (o + 9)
  | 20 => some (o + 10) | 21 => some (o + 11) | 22 => some (o + 12) | 36 => some (o + 13) | 37 => some (o + 14) | 38 => some (o + 15) | 39 => some (o + 16) | 40 => some (o + 17) | _ => none) else none
abbrev Mu : Type := (Nat → Nat → Int32) × (Nat → Nat → Int64)
def inM (o a : Nat) : Bool := decide (o ≤ a) && decide (a < o + 18)
def mst (G : Hp) (o : Nat) (u : Mu) : Hp :=
  ((fun a => if inM o a = true then mT (a - o) else G.1 a), (fun a => if inM o a = true then mN (a - o) else G.2.1 a),
   (fun a k => if inM o a = true then u.1 (a - o) k else G.2.2.1 a k), (fun a k => if inM o a = true then u.2 (a - o) k else G.2.2.2.1 a k),
   (fun a k => if inM o a = true then mR o (a - o) k else G.2.2.2.2.1 a k), G.2.2.2.2.2)
theorem inM_add {o j : Nat} (h : j < 18) : inM o (o + j) = true := by unfold inM; rw [decide_eq_true (by omega), decide_eq_true (by omega)]; rfl
theorem inM_0 {o : Nat} : inM o o = true := inM_add (j := 0) (by omega)
section TW
variable {G : Hp} {o : Nat} {u : Mu}
theorem mst_T0 : gT (mst G o u) o = 8 := by
  show (if inM o o = true then mT (o - o) else _) = _
  rw [if_pos inM_0, Nat.sub_self]; rfl
theorem mst_T {j : Nat} (h : j < 18) : gT (mst G o u) (o + j) = mT j := by
  show (if inM o (o + j) = true then mT (o + j - o) else _) = _
  rw [if_pos (inM_add h), Nat.add_sub_cancel_left]
theorem mst_N {j : Nat} (h : j < 18) : gN (mst G o u) (o + j) = mN j := by
  show (if inM o (o + j) = true then mN (o + j - o) else _) = _
  rw [if_pos (inM_add h), Nat.add_sub_cancel_left]
theorem mst_I0 {k : Nat} : gI (mst G o u) o k = u.1 0 k := by
  show (if inM o o = true then u.1 (o - o) k else _) = _
  rw [if_pos inM_0, Nat.sub_self]
theorem mst_J0 {k : Nat} : gJ (mst G o u) o k = u.2 0 k := by
  show (if inM o o = true then u.2 (o - o) k else _) = _
  rw [if_pos inM_0, Nat.sub_self]
theorem mst_R0 {k : Nat} : gR (mst G o u) o k = mR o 0 k := by
  show (if inM o o = true then mR o (o - o) k else _) = _
  rw [if_pos inM_0, Nat.sub_self]
theorem mst_I {j k : Nat} (h : j < 18) : gI (mst G o u) (o + j) k = u.1 j k := by
  show (if inM o (o + j) = true then u.1 (o + j - o) k else _) = _
  rw [if_pos (inM_add h), Nat.add_sub_cancel_left]
theorem mst_J {j k : Nat} (h : j < 18) : gJ (mst G o u) (o + j) k = u.2 j k := by
  show (if inM o (o + j) = true then u.2 (o + j - o) k else _) = _
  rw [if_pos (inM_add h), Nat.add_sub_cancel_left]
theorem mst_B : gB (mst G o u) = gB G := id rfl
def uI (u : Mu) (j k : Nat) (x : Int32) : Mu := (up2 u.1 j k x, u.2)
def uJ (u : Mu) (j k : Nat) (x : Int64) : Mu := (u.1, up2 u.2 j k x)
theorem mst_sI {j k : Nat} {x : Int32} (h : j < 18) : sI (mst G o u) (o + j) k x = mst G o (uI u j k x) := by
  unfold sI mst uI
  refine congrArg (fun z => ((mst G o u).1, (mst G o u).2.1, z, (mst G o u).2.2.2)) ?_
  funext a q
  unfold up2
  dsimp only
  by_cases hm : inM o a = true
  · rw [if_pos hm, if_pos hm]
    unfold inM at hm
    simp only [Bool.and_eq_true, decide_eq_true_eq] at hm
    by_cases e : a = o + j ∧ q = k
    · rw [if_pos e, if_pos ⟨by omega, e.2⟩]
    · rw [if_neg e, if_neg (fun z => e ⟨by omega, z.2⟩)]
  · rw [if_neg hm, if_neg hm]
    refine if_neg (fun z => hm ?_)
    rw [z.1]
    exact inM_add h
theorem mst_sI0 {k : Nat} {x : Int32} : sI (mst G o u) o k x = mst G o (uI u 0 k x) := mst_sI (j := 0) (by omega)
theorem mst_sJ {j k : Nat} {x : Int64} (h : j < 18) : sJ (mst G o u) (o + j) k x = mst G o (uJ u j k x) := by
  unfold sJ mst uJ
  refine congrArg (fun z => ((mst G o u).1, (mst G o u).2.1, (mst G o u).2.2.1, z, (mst G o u).2.2.2.2)) ?_
  funext a q
  unfold up2
  dsimp only
  by_cases hm : inM o a = true
  · rw [if_pos hm, if_pos hm]
    unfold inM at hm
    simp only [Bool.and_eq_true, decide_eq_true_eq] at hm
    by_cases e : a = o + j ∧ q = k
    · rw [if_pos e, if_pos ⟨by omega, e.2⟩]
    · rw [if_neg e, if_neg (fun z => e ⟨by omega, z.2⟩)]
  · rw [if_neg hm, if_neg hm]
    refine if_neg (fun z => hm ?_)
    rw [z.1]
    exact inM_add h
theorem mst_sJ0 {k : Nat} {x : Int64} : sJ (mst G o u) o k x = mst G o (uJ u 0 k x) := mst_sJ (j := 0) (by omega)
theorem uI_I {j k j' k' : Nat} {x : Int32} : (uI u j k x).1 j' k' = if j' = j ∧ k' = k then x else u.1 j' k' := id rfl
theorem uI_J {j k : Nat} {x : Int32} : (uI u j k x).2 = u.2 := id rfl
theorem uJ_I {j k : Nat} {x : Int64} : (uJ u j k x).1 = u.1 := id rfl
theorem uJ_J {j k j' k' : Nat} {x : Int64} : (uJ u j k x).2 j' k' = if j' = j ∧ k' = k then x else u.2 j' k' := id rfl
end TW
theorem c1_int {x : Int32} : c1 (.int x) = true := id rfl
theorem c1_ref {x : Nat} : c1 (.ref x) = true := id rfl
theorem c1_UV : c1 UV = true := id rfl
theorem okZ_0 : okZ 0 = true := by decide
theorem okZ_1 : okZ 1 = true := by decide
theorem litA (n a : Nat) : (no_index (OfNat.ofNat n) : Int32) + nI a = nI (n + a) := nI_add n a
theorem litB (n a : Nat) : nI a + (no_index (OfNat.ofNat n) : Int32) = nI (a + n) := nI_add a n
theorem litM (n a : Nat) : (no_index (OfNat.ofNat n) : Int32) * nI a = nI (n * a) := pk_mul n a
theorem rdI' {u : Mu} {j k : Nat} {G : Hp} {o : Nat} (h : j < 18) : gI (mst G o u) (o + j) k = u.1 j k := mst_I h
theorem gB_add {b o j : Nat} (h : b ≤ o) : b ≤ o + j := Nat.le_trans h (Nat.le_add_right _ _)
/-- counts(asker): not left out, not silent -/
def cntF (u : Mu) (a : Nat) : Bool := decide (¬ nI a = u.1 0 19) && decide (u.1 4 (36 + a) < u.1 0 7)
def zb (b : Bool) : Int32 := if b = true then 1 else 0
set_option maxHeartbeats 4000000 in
theorem s_counts {d a o : Nat} {G : Hp} {u : Mu} (ha : a < 8) : XP PP d 162 0 [.ref o, .int (nI a)] [] (mst G o u) = some (.inl (some (.int (zb (cntF u a)))), mst G o u) := by
  have e1 : inb (nI (36 + a)) 718 = true := inb_nI (by omega) (by omega)
  have e2 : (nI (36 + a)).toNatClampNeg = 36 + a := nI_clamp (by omega)
  unfold cntF zb
  by_cases h1 : nI a = u.1 0 19
  · simp [x162_0, x162_1, x162_2, x162_5, x162_8, x162_9, x162_12, x162_14, x162_15, x162_16, x162_17, x162_18, x162_21, x162_24, x162_25, x162_28, x162_29, rf_ref, c1_int, c1_ref, c1_UV, mst_T0, mst_I0, mst_R0, mst_T, mst_N, mst_I, mst_B, mT, mN, mR, va_rf_some, litA, litB, litM, nI_add, okZ_0, okZ_1, ↓reduceIte, if_true, if_false, RP_v, RP_n, h1]
  · by_cases h2 : u.1 0 7 ≤ u.1 4 (36 + a)
    · simp [x162_0, x162_1, x162_2, x162_5, x162_8, x162_9, x162_12, x162_14, x162_15, x162_16, x162_17, x162_18, x162_21, x162_24, x162_25, x162_28, x162_29, rf_ref, c1_int, c1_ref, c1_UV, mst_T0, mst_I0, mst_R0, mst_T, mst_N, mst_I, mst_B, mT, mN, mR, va_rf_some, litA, litB, litM, nI_add, okZ_0, okZ_1, ↓reduceIte, if_true, if_false, RP_v, RP_n, h1, h2, e1, e2]
    · simp [x162_0, x162_1, x162_2, x162_5, x162_8, x162_9, x162_12, x162_14, x162_15, x162_16, x162_17, x162_18, x162_21, x162_24, x162_25, x162_28, x162_29, rf_ref, c1_int, c1_ref, c1_UV, mst_T0, mst_I0, mst_R0, mst_T, mst_N, mst_I, mst_B, mT, mN, mR, va_rf_some, litA, litB, litM, nI_add, okZ_0, okZ_1, ↓reduceIte, if_true, if_false, RP_v, RP_n, h1, h2, e1, e2]
set_option maxHeartbeats 4000000 in
theorem s_onBallot {d a p o : Nat} {G : Hp} {u : Mu} (ha : a < 8) (hp : p < 5) : XP PP d 165 0 [.ref o, .int (nI a), .int (nI p)] [] (mst G o u) = some (.inl (some (.int (u.1 4 (78 + 5 * a + p)))), mst G o u) := by
  have e1 : inb (nI (78 + 5 * a + p)) 718 = true := inb_nI (by omega) (by omega)
  have e2 : (nI (78 + 5 * a + p)).toNatClampNeg = 78 + 5 * a + p := nI_clamp (by omega)
  simp [x165_0, x165_1, x165_4, x165_6, x165_7, x165_8, x165_9, x165_10, x165_11, x165_12, x165_13, rf_ref, c1_int, c1_ref, c1_UV, mst_T0, mst_I0, mst_R0, mst_T, mst_N, mst_I, mst_B, mT, mN, mR, va_rf_some, litA, litB, litM, nI_add, okZ_0, okZ_1, ↓reduceIte, if_true, if_false, RP_v, RP_n, e1, e2]
/-- the place of a class on a ballot -/
theorem s_placeOf_l {d a o : Nat} {G : Hp} {u : Mu} (ha : a < 8) (k : Int32) : ∀ (n p q : Nat), p + n = q → q < 5 → u.1 4 (78 + 5 * a + q) = k → (∀ r, p ≤ r → r < q → ¬ u.1 4 (78 + 5 * a + r) = k) → XP PP (d + 1) 169 2 [.ref o, .int (nI a), .int k, .int (nI p)] [] (mst G o u) = some (.inl (some (.int (nI q))), mst G o u) := by
  intro n
  induction n with
  | zero =>
    intro p q h1 h2 h3 h4
    have e : p = q := by omega
    subst e
    refine (x169_2 (rf_ref _)).trans ?_
    simp [x169_3, x169_4, x169_5, x169_8, x169_9, x169_12, x169_13, x169_14, x169_15, x169_16, x169_19, x169_20, rf_ref, c1_int, c1_ref, c1_UV, mst_T0, mst_I0, mst_R0, mst_T, mst_N, mst_I, mst_B, mT, mN, mR, va_rf_some, litA, litB, litM, nI_add, okZ_0, okZ_1, ↓reduceIte, if_true, if_false, RP_v, RP_n, s_onBallot ha h2, h3]
  | succ n ih =>
    intro p q h1 h2 h3 h4
    have e := h4 p (Nat.le_refl _) (by omega)
    have hp : p < 5 := by omega
    have ih' := ih (p + 1) q (by omega) h2 h3 (fun r a b => h4 r (by omega) b)
    refine (x169_2 (rf_ref _)).trans ?_
    simp [x169_3, x169_4, x169_5, x169_8, x169_9, x169_12, x169_13, x169_14, x169_15, x169_16, x169_19, x169_20, rf_ref, c1_int, c1_ref, c1_UV, mst_T0, mst_I0, mst_R0, mst_T, mst_N, mst_I, mst_B, mT, mN, mR, va_rf_some, litA, litB, litM, nI_add, okZ_0, okZ_1, ↓reduceIte, if_true, if_false, RP_v, RP_n, s_onBallot ha hp, e, ih']

/-! THE TWIN's world: one object of 18 cells, from o on; its numbers in mu: ints by cell and place, longs by cell and place -/
def mT (j : Nat) : Nat := [8, 100, 101, 101, 100, 100, 100, 100, 100, 100, 100, 100, 102, 100, 100, 101, 101, 102].getD j 0
def mN (j : Nat) : Nat := [42, 8, 5, 8, 718, 718, 718, 718, 718, 5744, 5, 5, 500, 5, 8, 5, 8, 60].getD j 0
def mR (o j k : Nat) : Option Nat := if j = 0 then (match k with
  | 8 => some (o + 1) | 9 => some (o + 2) | 10 => some (o + 3) | 11 => some (o + 4) | 12 => some (o + 5) | 13 => some (o + 6) | 14 => some (o + 7) | 15 => some (o + 8) | 16 => some (o + 9)
  | 20 => some (o + 10) | 21 => some (o + 11) | 22 => some (o + 12) | 36 => some (o + 13) | 37 => some (o + 14) | 38 => some (o + 15) | 39 => some (o + 16) | 40 => some (o + 17) | _ => none) else none
abbrev Mu : Type := (Nat → Nat → Int32) × (Nat → Nat → Int64)
abbrev Rw : Type := Nat → Int32
def inM (o a : Nat) : Bool := decide (o ≤ a) && decide (a < o + 18)
def mst (G : Hp) (o : Nat) (u : Mu) : Hp :=
  ((fun a => if inM o a = true then mT (a - o) else G.1 a), (fun a => if inM o a = true then mN (a - o) else G.2.1 a),
   (fun a k => if inM o a = true then u.1 (a - o) k else G.2.2.1 a k), (fun a k => if inM o a = true then u.2 (a - o) k else G.2.2.2.1 a k),
   (fun a k => if inM o a = true then mR o (a - o) k else G.2.2.2.2.1 a k), G.2.2.2.2.2)
/-- a whole row of ints (longs) anew -/
def uR (u : Mu) (j : Nat) (f : Rw) : Mu := (upr u.1 j f, u.2)
def uL (u : Mu) (j : Nat) (f : Nat → Int64) : Mu := (u.1, upr u.2 j f)
theorem inM_add {o j : Nat} (h : j < 18) : inM o (o + j) = true := by unfold inM; rw [decide_eq_true (by omega), decide_eq_true (by omega)]; rfl
theorem inM_0 {o : Nat} : inM o o = true := inM_add (j := 0) (by omega)
theorem up2_upr {α : Type} (f : Nat → Nat → α) (a k : Nat) (x : α) : up2 f a k x = upr f a (va_up (f a) k x) := by
  funext b j
  unfold up2 upr va_up
  by_cases e : b = a
  · subst e
    by_cases e2 : j = k
    · simp [e2]
    · simp [e2]
  · simp [e]
section TW
variable {G : Hp} {o : Nat} {u : Mu}
theorem mst_T0 : gT (mst G o u) o = 8 := by
  show (if inM o o = true then mT (o - o) else _) = _
  rw [if_pos inM_0, Nat.sub_self]; rfl
theorem mst_T {j : Nat} (h : j < 18) : gT (mst G o u) (o + j) = mT j := by
  show (if inM o (o + j) = true then mT (o + j - o) else _) = _
  rw [if_pos (inM_add h), Nat.add_sub_cancel_left]
theorem mst_N {j : Nat} (h : j < 18) : gN (mst G o u) (o + j) = mN j := by
  show (if inM o (o + j) = true then mN (o + j - o) else _) = _
  rw [if_pos (inM_add h), Nat.add_sub_cancel_left]
theorem mst_I0 {k : Nat} : gI (mst G o u) o k = u.1 0 k := by
  show (if inM o o = true then u.1 (o - o) k else _) = _
  rw [if_pos inM_0, Nat.sub_self]
theorem mst_J0 {k : Nat} : gJ (mst G o u) o k = u.2 0 k := by
  show (if inM o o = true then u.2 (o - o) k else _) = _
  rw [if_pos inM_0, Nat.sub_self]
theorem mst_R0 {k : Nat} : gR (mst G o u) o k = mR o 0 k := by
  show (if inM o o = true then mR o (o - o) k else _) = _
  rw [if_pos inM_0, Nat.sub_self]
theorem mst_I {j k : Nat} (h : j < 18) : gI (mst G o u) (o + j) k = u.1 j k := by
  show (if inM o (o + j) = true then u.1 (o + j - o) k else _) = _
  rw [if_pos (inM_add h), Nat.add_sub_cancel_left]
theorem mst_J {j k : Nat} (h : j < 18) : gJ (mst G o u) (o + j) k = u.2 j k := by
  show (if inM o (o + j) = true then u.2 (o + j - o) k else _) = _
  rw [if_pos (inM_add h), Nat.add_sub_cancel_left]
theorem mst_B : gB (mst G o u) = gB G := id rfl
theorem mst_sI {j k : Nat} {x : Int32} (h : j < 18) : sI (mst G o u) (o + j) k x = mst G o (uR u j (va_up (u.1 j) k x)) := by
  have q := congrArg (fun f => mst G o (f, u.2)) (up2_upr u.1 j k x)
  refine Eq.trans ?_ q
  unfold sI mst
  refine congrArg (fun z => ((mst G o u).1, (mst G o u).2.1, z, (mst G o u).2.2.2)) ?_
  funext a q
  unfold up2
  dsimp only
  by_cases hm : inM o a = true
  · rw [if_pos hm, if_pos hm]
    unfold inM at hm
    simp only [Bool.and_eq_true, decide_eq_true_eq] at hm
    by_cases e : a = o + j ∧ q = k
    · rw [if_pos e, if_pos ⟨by omega, e.2⟩]
    · rw [if_neg e, if_neg (fun z => e ⟨by omega, z.2⟩)]
  · rw [if_neg hm, if_neg hm]
    refine if_neg (fun z => hm ?_)
    rw [z.1]
    exact inM_add h
theorem mst_sI0 {k : Nat} {x : Int32} : sI (mst G o u) o k x = mst G o (uR u 0 (va_up (u.1 0) k x)) := mst_sI (j := 0) (by omega)
theorem mst_sJ {j k : Nat} {x : Int64} (h : j < 18) : sJ (mst G o u) (o + j) k x = mst G o (uL u j (va_up (u.2 j) k x)) := by
  have q := congrArg (fun f => mst G o (u.1, f)) (up2_upr u.2 j k x)
  refine Eq.trans ?_ q
  unfold sJ mst
  refine congrArg (fun z => ((mst G o u).1, (mst G o u).2.1, (mst G o u).2.2.1, z, (mst G o u).2.2.2.2)) ?_
  funext a q
  unfold up2
  dsimp only
  by_cases hm : inM o a = true
  · rw [if_pos hm, if_pos hm]
    unfold inM at hm
    simp only [Bool.and_eq_true, decide_eq_true_eq] at hm
    by_cases e : a = o + j ∧ q = k
    · rw [if_pos e, if_pos ⟨by omega, e.2⟩]
    · rw [if_neg e, if_neg (fun z => e ⟨by omega, z.2⟩)]
  · rw [if_neg hm, if_neg hm]
    refine if_neg (fun z => hm ?_)
    rw [z.1]
    exact inM_add h
theorem mst_sJ0 {k : Nat} {x : Int64} : sJ (mst G o u) o k x = mst G o (uL u 0 (va_up (u.2 0) k x)) := mst_sJ (j := 0) (by omega)
end TW
theorem upr_same {α : Type} (f : Nat → α) (a : Nat) (x : α) : (fun b => if b = a then x else f b) a = x := if_pos rfl
theorem uR_s {u : Mu} {j : Nat} {f : Rw} : (uR u j f).1 j = f := if_pos rfl
theorem uR_o {u : Mu} {i j : Nat} {f : Rw} (h : ¬ i = j) : (uR u j f).1 i = u.1 i := if_neg h
theorem uR_2 {u : Mu} {j : Nat} {f : Rw} : (uR u j f).2 = u.2 := id rfl
theorem uL_s {u : Mu} {j : Nat} {f : Nat → Int64} : (uL u j f).2 j = f := if_pos rfl
theorem uL_o {u : Mu} {i j : Nat} {f : Nat → Int64} (h : ¬ i = j) : (uL u j f).2 i = u.2 i := if_neg h
theorem uL_1 {u : Mu} {j : Nat} {f : Nat → Int64} : (uL u j f).1 = u.1 := id rfl
theorem upr_upr {α : Type} (f : Nat → Nat → α) (a : Nat) (x y : Nat → α) : upr (upr f a x) a y = upr f a y := by
  funext b; unfold upr; by_cases e : b = a <;> simp [e]
theorem upr_comm {α : Type} (f : Nat → Nat → α) {a c : Nat} (h : ¬ a = c) (x y : Nat → α) : upr (upr f a x) c y = upr (upr f c y) a x := by
  funext b; unfold upr
  by_cases e : b = a
  · have : ¬ b = c := by omega
    simp [e, h]
  · by_cases e2 : b = c <;> simp [e, e2]
    intro z; exact absurd z.symm h
theorem upr_self {α : Type} (f : Nat → Nat → α) (a : Nat) : upr f a (f a) = f := by
  funext b; unfold upr; by_cases e : b = a <;> simp [e]
theorem uR_uR {u : Mu} {j : Nat} {f g : Rw} : uR (uR u j f) j g = uR u j g := by unfold uR; dsimp only; rw [upr_upr]
theorem uR_c {u : Mu} {i j : Nat} {f g : Rw} (h : j < i) : uR (uR u i f) j g = uR (uR u j g) i f := by unfold uR; dsimp only; rw [upr_comm _ (by omega)]
theorem uc1_0 {u : Mu} {f g : Rw} : uR (uR u 1 f) 0 g = uR (uR u 0 g) 1 f := uR_c (by decide)
theorem uc4_0 {u : Mu} {f g : Rw} : uR (uR u 4 f) 0 g = uR (uR u 0 g) 4 f := uR_c (by decide)
theorem uc4_1 {u : Mu} {f g : Rw} : uR (uR u 4 f) 1 g = uR (uR u 1 g) 4 f := uR_c (by decide)
theorem uc5_0 {u : Mu} {f g : Rw} : uR (uR u 5 f) 0 g = uR (uR u 0 g) 5 f := uR_c (by decide)
theorem uc5_1 {u : Mu} {f g : Rw} : uR (uR u 5 f) 1 g = uR (uR u 1 g) 5 f := uR_c (by decide)
theorem uc5_4 {u : Mu} {f g : Rw} : uR (uR u 5 f) 4 g = uR (uR u 4 g) 5 f := uR_c (by decide)
theorem uc6_0 {u : Mu} {f g : Rw} : uR (uR u 6 f) 0 g = uR (uR u 0 g) 6 f := uR_c (by decide)
theorem uc6_1 {u : Mu} {f g : Rw} : uR (uR u 6 f) 1 g = uR (uR u 1 g) 6 f := uR_c (by decide)
theorem uc6_4 {u : Mu} {f g : Rw} : uR (uR u 6 f) 4 g = uR (uR u 4 g) 6 f := uR_c (by decide)
theorem uc6_5 {u : Mu} {f g : Rw} : uR (uR u 6 f) 5 g = uR (uR u 5 g) 6 f := uR_c (by decide)
theorem uc7_0 {u : Mu} {f g : Rw} : uR (uR u 7 f) 0 g = uR (uR u 0 g) 7 f := uR_c (by decide)
theorem uc7_1 {u : Mu} {f g : Rw} : uR (uR u 7 f) 1 g = uR (uR u 1 g) 7 f := uR_c (by decide)
theorem uc7_4 {u : Mu} {f g : Rw} : uR (uR u 7 f) 4 g = uR (uR u 4 g) 7 f := uR_c (by decide)
theorem uc7_5 {u : Mu} {f g : Rw} : uR (uR u 7 f) 5 g = uR (uR u 5 g) 7 f := uR_c (by decide)
theorem uc7_6 {u : Mu} {f g : Rw} : uR (uR u 7 f) 6 g = uR (uR u 6 g) 7 f := uR_c (by decide)
theorem uc8_0 {u : Mu} {f g : Rw} : uR (uR u 8 f) 0 g = uR (uR u 0 g) 8 f := uR_c (by decide)
theorem uc8_1 {u : Mu} {f g : Rw} : uR (uR u 8 f) 1 g = uR (uR u 1 g) 8 f := uR_c (by decide)
theorem uc8_4 {u : Mu} {f g : Rw} : uR (uR u 8 f) 4 g = uR (uR u 4 g) 8 f := uR_c (by decide)
theorem uc8_5 {u : Mu} {f g : Rw} : uR (uR u 8 f) 5 g = uR (uR u 5 g) 8 f := uR_c (by decide)
theorem uc8_6 {u : Mu} {f g : Rw} : uR (uR u 8 f) 6 g = uR (uR u 6 g) 8 f := uR_c (by decide)
theorem uc8_7 {u : Mu} {f g : Rw} : uR (uR u 8 f) 7 g = uR (uR u 7 g) 8 f := uR_c (by decide)
theorem uc9_0 {u : Mu} {f g : Rw} : uR (uR u 9 f) 0 g = uR (uR u 0 g) 9 f := uR_c (by decide)
theorem uc9_1 {u : Mu} {f g : Rw} : uR (uR u 9 f) 1 g = uR (uR u 1 g) 9 f := uR_c (by decide)
theorem uc9_4 {u : Mu} {f g : Rw} : uR (uR u 9 f) 4 g = uR (uR u 4 g) 9 f := uR_c (by decide)
theorem uc9_5 {u : Mu} {f g : Rw} : uR (uR u 9 f) 5 g = uR (uR u 5 g) 9 f := uR_c (by decide)
theorem uc9_6 {u : Mu} {f g : Rw} : uR (uR u 9 f) 6 g = uR (uR u 6 g) 9 f := uR_c (by decide)
theorem uc9_7 {u : Mu} {f g : Rw} : uR (uR u 9 f) 7 g = uR (uR u 7 g) 9 f := uR_c (by decide)
theorem uc9_8 {u : Mu} {f g : Rw} : uR (uR u 9 f) 8 g = uR (uR u 8 g) 9 f := uR_c (by decide)
theorem uc10_0 {u : Mu} {f g : Rw} : uR (uR u 10 f) 0 g = uR (uR u 0 g) 10 f := uR_c (by decide)
theorem uc10_1 {u : Mu} {f g : Rw} : uR (uR u 10 f) 1 g = uR (uR u 1 g) 10 f := uR_c (by decide)
theorem uc10_4 {u : Mu} {f g : Rw} : uR (uR u 10 f) 4 g = uR (uR u 4 g) 10 f := uR_c (by decide)
theorem uc10_5 {u : Mu} {f g : Rw} : uR (uR u 10 f) 5 g = uR (uR u 5 g) 10 f := uR_c (by decide)
theorem uc10_6 {u : Mu} {f g : Rw} : uR (uR u 10 f) 6 g = uR (uR u 6 g) 10 f := uR_c (by decide)
theorem uc10_7 {u : Mu} {f g : Rw} : uR (uR u 10 f) 7 g = uR (uR u 7 g) 10 f := uR_c (by decide)
theorem uc10_8 {u : Mu} {f g : Rw} : uR (uR u 10 f) 8 g = uR (uR u 8 g) 10 f := uR_c (by decide)
theorem uc10_9 {u : Mu} {f g : Rw} : uR (uR u 10 f) 9 g = uR (uR u 9 g) 10 f := uR_c (by decide)
theorem uc11_0 {u : Mu} {f g : Rw} : uR (uR u 11 f) 0 g = uR (uR u 0 g) 11 f := uR_c (by decide)
theorem uc11_1 {u : Mu} {f g : Rw} : uR (uR u 11 f) 1 g = uR (uR u 1 g) 11 f := uR_c (by decide)
theorem uc11_4 {u : Mu} {f g : Rw} : uR (uR u 11 f) 4 g = uR (uR u 4 g) 11 f := uR_c (by decide)
theorem uc11_5 {u : Mu} {f g : Rw} : uR (uR u 11 f) 5 g = uR (uR u 5 g) 11 f := uR_c (by decide)
theorem uc11_6 {u : Mu} {f g : Rw} : uR (uR u 11 f) 6 g = uR (uR u 6 g) 11 f := uR_c (by decide)
theorem uc11_7 {u : Mu} {f g : Rw} : uR (uR u 11 f) 7 g = uR (uR u 7 g) 11 f := uR_c (by decide)
theorem uc11_8 {u : Mu} {f g : Rw} : uR (uR u 11 f) 8 g = uR (uR u 8 g) 11 f := uR_c (by decide)
theorem uc11_9 {u : Mu} {f g : Rw} : uR (uR u 11 f) 9 g = uR (uR u 9 g) 11 f := uR_c (by decide)
theorem uc11_10 {u : Mu} {f g : Rw} : uR (uR u 11 f) 10 g = uR (uR u 10 g) 11 f := uR_c (by decide)
theorem uc12_0 {u : Mu} {f g : Rw} : uR (uR u 12 f) 0 g = uR (uR u 0 g) 12 f := uR_c (by decide)
theorem uc12_1 {u : Mu} {f g : Rw} : uR (uR u 12 f) 1 g = uR (uR u 1 g) 12 f := uR_c (by decide)
theorem uc12_4 {u : Mu} {f g : Rw} : uR (uR u 12 f) 4 g = uR (uR u 4 g) 12 f := uR_c (by decide)
theorem uc12_5 {u : Mu} {f g : Rw} : uR (uR u 12 f) 5 g = uR (uR u 5 g) 12 f := uR_c (by decide)
theorem uc12_6 {u : Mu} {f g : Rw} : uR (uR u 12 f) 6 g = uR (uR u 6 g) 12 f := uR_c (by decide)
theorem uc12_7 {u : Mu} {f g : Rw} : uR (uR u 12 f) 7 g = uR (uR u 7 g) 12 f := uR_c (by decide)
theorem uc12_8 {u : Mu} {f g : Rw} : uR (uR u 12 f) 8 g = uR (uR u 8 g) 12 f := uR_c (by decide)
theorem uc12_9 {u : Mu} {f g : Rw} : uR (uR u 12 f) 9 g = uR (uR u 9 g) 12 f := uR_c (by decide)
theorem uc12_10 {u : Mu} {f g : Rw} : uR (uR u 12 f) 10 g = uR (uR u 10 g) 12 f := uR_c (by decide)
theorem uc12_11 {u : Mu} {f g : Rw} : uR (uR u 12 f) 11 g = uR (uR u 11 g) 12 f := uR_c (by decide)
theorem uc13_0 {u : Mu} {f g : Rw} : uR (uR u 13 f) 0 g = uR (uR u 0 g) 13 f := uR_c (by decide)
theorem uc13_1 {u : Mu} {f g : Rw} : uR (uR u 13 f) 1 g = uR (uR u 1 g) 13 f := uR_c (by decide)
theorem uc13_4 {u : Mu} {f g : Rw} : uR (uR u 13 f) 4 g = uR (uR u 4 g) 13 f := uR_c (by decide)
theorem uc13_5 {u : Mu} {f g : Rw} : uR (uR u 13 f) 5 g = uR (uR u 5 g) 13 f := uR_c (by decide)
theorem uc13_6 {u : Mu} {f g : Rw} : uR (uR u 13 f) 6 g = uR (uR u 6 g) 13 f := uR_c (by decide)
theorem uc13_7 {u : Mu} {f g : Rw} : uR (uR u 13 f) 7 g = uR (uR u 7 g) 13 f := uR_c (by decide)
theorem uc13_8 {u : Mu} {f g : Rw} : uR (uR u 13 f) 8 g = uR (uR u 8 g) 13 f := uR_c (by decide)
theorem uc13_9 {u : Mu} {f g : Rw} : uR (uR u 13 f) 9 g = uR (uR u 9 g) 13 f := uR_c (by decide)
theorem uc13_10 {u : Mu} {f g : Rw} : uR (uR u 13 f) 10 g = uR (uR u 10 g) 13 f := uR_c (by decide)
theorem uc13_11 {u : Mu} {f g : Rw} : uR (uR u 13 f) 11 g = uR (uR u 11 g) 13 f := uR_c (by decide)
theorem uc13_12 {u : Mu} {f g : Rw} : uR (uR u 13 f) 12 g = uR (uR u 12 g) 13 f := uR_c (by decide)
theorem uc14_0 {u : Mu} {f g : Rw} : uR (uR u 14 f) 0 g = uR (uR u 0 g) 14 f := uR_c (by decide)
theorem uc14_1 {u : Mu} {f g : Rw} : uR (uR u 14 f) 1 g = uR (uR u 1 g) 14 f := uR_c (by decide)
theorem uc14_4 {u : Mu} {f g : Rw} : uR (uR u 14 f) 4 g = uR (uR u 4 g) 14 f := uR_c (by decide)
theorem uc14_5 {u : Mu} {f g : Rw} : uR (uR u 14 f) 5 g = uR (uR u 5 g) 14 f := uR_c (by decide)
theorem uc14_6 {u : Mu} {f g : Rw} : uR (uR u 14 f) 6 g = uR (uR u 6 g) 14 f := uR_c (by decide)
theorem uc14_7 {u : Mu} {f g : Rw} : uR (uR u 14 f) 7 g = uR (uR u 7 g) 14 f := uR_c (by decide)
theorem uc14_8 {u : Mu} {f g : Rw} : uR (uR u 14 f) 8 g = uR (uR u 8 g) 14 f := uR_c (by decide)
theorem uc14_9 {u : Mu} {f g : Rw} : uR (uR u 14 f) 9 g = uR (uR u 9 g) 14 f := uR_c (by decide)
theorem uc14_10 {u : Mu} {f g : Rw} : uR (uR u 14 f) 10 g = uR (uR u 10 g) 14 f := uR_c (by decide)
theorem uc14_11 {u : Mu} {f g : Rw} : uR (uR u 14 f) 11 g = uR (uR u 11 g) 14 f := uR_c (by decide)
theorem uc14_12 {u : Mu} {f g : Rw} : uR (uR u 14 f) 12 g = uR (uR u 12 g) 14 f := uR_c (by decide)
theorem uc14_13 {u : Mu} {f g : Rw} : uR (uR u 14 f) 13 g = uR (uR u 13 g) 14 f := uR_c (by decide)
theorem uc17_0 {u : Mu} {f g : Rw} : uR (uR u 17 f) 0 g = uR (uR u 0 g) 17 f := uR_c (by decide)
theorem uc17_1 {u : Mu} {f g : Rw} : uR (uR u 17 f) 1 g = uR (uR u 1 g) 17 f := uR_c (by decide)
theorem uc17_4 {u : Mu} {f g : Rw} : uR (uR u 17 f) 4 g = uR (uR u 4 g) 17 f := uR_c (by decide)
theorem uc17_5 {u : Mu} {f g : Rw} : uR (uR u 17 f) 5 g = uR (uR u 5 g) 17 f := uR_c (by decide)
theorem uc17_6 {u : Mu} {f g : Rw} : uR (uR u 17 f) 6 g = uR (uR u 6 g) 17 f := uR_c (by decide)
theorem uc17_7 {u : Mu} {f g : Rw} : uR (uR u 17 f) 7 g = uR (uR u 7 g) 17 f := uR_c (by decide)
theorem uc17_8 {u : Mu} {f g : Rw} : uR (uR u 17 f) 8 g = uR (uR u 8 g) 17 f := uR_c (by decide)
theorem uc17_9 {u : Mu} {f g : Rw} : uR (uR u 17 f) 9 g = uR (uR u 9 g) 17 f := uR_c (by decide)
theorem uc17_10 {u : Mu} {f g : Rw} : uR (uR u 17 f) 10 g = uR (uR u 10 g) 17 f := uR_c (by decide)
theorem uc17_11 {u : Mu} {f g : Rw} : uR (uR u 17 f) 11 g = uR (uR u 11 g) 17 f := uR_c (by decide)
theorem uc17_12 {u : Mu} {f g : Rw} : uR (uR u 17 f) 12 g = uR (uR u 12 g) 17 f := uR_c (by decide)
theorem uc17_13 {u : Mu} {f g : Rw} : uR (uR u 17 f) 13 g = uR (uR u 13 g) 17 f := uR_c (by decide)
theorem uc17_14 {u : Mu} {f g : Rw} : uR (uR u 17 f) 14 g = uR (uR u 14 g) 17 f := uR_c (by decide)
theorem uL_uL {u : Mu} {j : Nat} {f g : Nat → Int64} : uL (uL u j f) j g = uL u j g := by unfold uL; dsimp only; rw [upr_upr]
theorem uR_uL {u : Mu} {i j : Nat} {f : Nat → Int64} {g : Rw} : uR (uL u i f) j g = uL (uR u j g) i f := id rfl
theorem uR_id {u : Mu} {j : Nat} : uR u j (u.1 j) = u := by unfold uR; rw [upr_self]
theorem up_s {α : Type} {f : Nat → α} {k : Nat} {x : α} : va_up f k x k = x := if_pos rfl
theorem up_o {α : Type} {f : Nat → α} {k i : Nat} {x : α} (h : ¬ i = k) : va_up f k x i = f i := if_neg h
theorem c1_int {x : Int32} : c1 (.int x) = true := id rfl
theorem c1_ref {x : Nat} : c1 (.ref x) = true := id rfl
theorem c1_UV : c1 UV = true := id rfl
theorem okZ_0 : okZ 0 = true := by decide
theorem okZ_1 : okZ 1 = true := by decide
theorem litA (n a : Nat) : (no_index (OfNat.ofNat n) : Int32) + nI a = nI (n + a) := nI_add n a
theorem litB (n a : Nat) : nI a + (no_index (OfNat.ofNat n) : Int32) = nI (a + n) := nI_add a n
theorem litM (n a : Nat) : (no_index (OfNat.ofNat n) : Int32) * nI a = nI (n * a) := pk_mul n a
theorem litC (n : Nat) : (no_index (OfNat.ofNat n) : Int32) = nI n := id rfl
theorem inb_lit {n N : Nat} (h : n < N) (hN : N < 2 ^ 31) : inb (no_index (OfNat.ofNat n) : Int32) N = true := inb_nI (k := n) h hN
theorem cl_lit {n : Nat} (h : n < 2 ^ 31) : (no_index (OfNat.ofNat n) : Int32).toNatClampNeg = n := nI_clamp h
theorem gB_add {b o j : Nat} (h : b ≤ o) : b ≤ o + j := Nat.le_trans h (Nat.le_add_right _ _)
def zb (b : Bool) : Int32 := if b = true then 1 else 0
theorem okZ_zb (b : Bool) : okZ (zb b) = true := by cases b <;> decide
theorem zb_0 (b : Bool) : (zb b = 0) = (b = false) := by cases b <;> simp [zb]
theorem inb_i {k n : Nat} (h : k < n) (hn : n < 2 ^ 31) : inb (nI k) n = true := inb_nI h hn
/-! loops -/
theorem XP_for {P : Prog} {d y pc : Nat} (n : Nat) (L : Nat → List Value) (H : Nat → Hp) {X : Option (Out × Hp)} (hs : ∀ j, j < n → XP P d y pc (L j) [] (H j) = XP P d y pc (L (j + 1)) [] (H (j + 1))) (he : XP P d y pc (L n) [] (H n) = X) : ∀ i, i ≤ n → XP P d y pc (L i) [] (H i) = X := by
  intro i hi
  have : ∀ m i, i + m = n → XP P d y pc (L i) [] (H i) = X := by
    intro m
    induction m with
    | zero => intro i h; rw [← he]; rw [Nat.add_zero] at h; rw [h]
    | succ m ih => intro i h; rw [hs i (by omega)]; exact ih (i + 1) (by omega)
  exact this (n - i) i (by omega)
/-- how many, how much, the first: of the numbers below n -/
def cnt (p : Nat → Bool) : Nat → Nat
  | 0 => 0
  | n + 1 => cnt p n + (if p n = true then 1 else 0)
def sm (f : Nat → Int32) : Nat → Int32
  | 0 => 0
  | n + 1 => sm f n + f n
def fnd (p : Nat → Bool) : Nat → Nat → Option Nat
  | 0, _ => none
  | m + 1, i => if p i = true then some i else fnd p m (i + 1)
/-- the first below n -/
def fst (p : Nat → Bool) (n : Nat) : Option Nat := fnd p n 0
theorem cnt_le (p : Nat → Bool) (n : Nat) : cnt p n ≤ n := by
  induction n with
  | zero => exact Nat.le_refl _
  | succ n ih => unfold cnt; split <;> omega
/-- a loop that stops at the first -/
theorem XP_fst {P : Prog} {d y pc : Nat} (n : Nat) (p : Nat → Bool) (L : Nat → List Value) (H : Nat → Hp) {X : Option (Out × Hp)} (Z : Nat → Option (Out × Hp)) (hz : ∀ j, j < n → p j = true → XP P d y pc (L j) [] (H j) = Z j)
    (hs : ∀ j, j < n → p j = false → XP P d y pc (L j) [] (H j) = XP P d y pc (L (j + 1)) [] (H (j + 1))) (he : XP P d y pc (L n) [] (H n) = X) :
    XP P d y pc (L 0) [] (H 0) = (match fst p n with | some j => Z j | none => X) := by
  have : ∀ m i, i + m = n → XP P d y pc (L i) [] (H i) = (match fnd p m i with | some j => Z j | none => X) := by
    intro m
    induction m with
    | zero => intro i h; rw [← he]; rw [Nat.add_zero] at h; rw [h]; rfl
    | succ m ih =>
      intro i h
      unfold fnd
      by_cases hp : p i = true
      · rw [if_pos hp]; exact hz i (by omega) hp
      · rw [if_neg hp, hs i (by omega) (by simpa using hp)]; exact ih (i + 1) (by omega)
  exact this n 0 (by omega)
theorem fnd_spec {p : Nat → Bool} {m i j : Nat} (h : fnd p m i = some j) : i ≤ j ∧ j < i + m ∧ p j = true ∧ ∀ k, i ≤ k → k < j → p k = false := by
  induction m generalizing i with
  | zero => cases h
  | succ m ih =>
    unfold fnd at h
    split at h
    · rename_i hp
      cases h
      exact ⟨Nat.le_refl _, by omega, hp, fun k a b => by omega⟩
    · rename_i hp
      obtain ⟨a, b, c, e⟩ := ih h
      refine ⟨by omega, by omega, c, fun k x y => ?_⟩
      by_cases q : k = i
      · subst q; simpa using hp
      · exact e k (by omega) y
theorem fnd_none {p : Nat → Bool} {m i : Nat} (h : fnd p m i = none) : ∀ k, i ≤ k → k < i + m → p k = false := by
  induction m generalizing i with
  | zero => intro k a b; omega
  | succ m ih =>
    unfold fnd at h
    split at h
    · cases h
    · rename_i hp
      intro k x y
      by_cases q : k = i
      · subst q; simpa using hp
      · exact ih h k (by omega) (by omega)
theorem fst_spec {p : Nat → Bool} {n j : Nat} (h : fst p n = some j) : j < n ∧ p j = true ∧ ∀ k, k < j → p k = false := by
  obtain ⟨a, b, c, e⟩ := fnd_spec h
  exact ⟨by omega, c, fun k x => e k (Nat.zero_le _) x⟩
theorem fst_none {p : Nat → Bool} {n : Nat} (h : fst p n = none) : ∀ k, k < n → p k = false := fun k x => fnd_none h k (Nat.zero_le _) (by omega)
/-- a loop with locals that are of no account at its head -/
theorem XP_forX {P : Prog} {d y pc : Nat} {E : Type} (n : Nat) (I : E → Prop) (L : Nat → E → List Value) (H : Nat → Hp) {X : Option (Out × Hp)} (hs : ∀ j, j < n → ∀ e, I e → ∃ e', I e' ∧ XP P d y pc (L j e) [] (H j) = XP P d y pc (L (j + 1) e') [] (H (j + 1))) (he : ∀ e, I e → XP P d y pc (L n e) [] (H n) = X) :
    ∀ i, i ≤ n → ∀ e, I e → XP P d y pc (L i e) [] (H i) = X := by
  intro i hi
  have : ∀ m i, i + m = n → ∀ e, I e → XP P d y pc (L i e) [] (H i) = X := by
    intro m
    induction m with
    | zero => intro i h e q; rw [Nat.add_zero] at h; subst h; exact he e q
    | succ m ih => intro i h e q; obtain ⟨e', q', z⟩ := hs i (by omega) e q; rw [z]; exact ih (i + 1) (by omega) e' q'
  exact this (n - i) i (by omega)

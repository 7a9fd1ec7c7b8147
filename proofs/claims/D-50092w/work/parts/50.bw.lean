/-! THE COMPONENT's world: a bus is a block of 21 cells from b on; its ints by cell and place, its setup, tally, current request, the cell of the waiting list's elements -/
def bT (j : Nat) : Nat := [6, 100, 100, 100, 100, 100, 100, 100, 100, 100, 100, 100, 100, 13, 111, 29, 30, 7, 100, 100, 100].getD j 0
def bN (j : Nat) : Nat := [26, 8, 8, 8, 8, 8, 8, 40, 5, 5, 5, 5, 360, 3, 4, 1, 1, 5, 5, 25, 25].getD j 0
abbrev Bs : Type := (Nat → Nat → Int32) × Nat × Nat × Option Nat × Nat
def bR (A : Nat → Nat) (b : Nat) (s : Bs) (j k : Nat) : Option Nat := match j with
  | 0 => (match k with
    | 0 => some s.2.1 | 1 => some (b + 1) | 2 => some (b + 2) | 3 => some (b + 3) | 4 => some (b + 4) | 5 => some (b + 5) | 6 => some (b + 6) | 7 => some (b + 7) | 8 => some (b + 8) | 9 => some (b + 9) | 10 => some (b + 10) | 11 => some (b + 11)
    | 12 => some (b + 12) | 13 => some (b + 13) | 14 => some (b + 17) | 15 => some (b + 14) | 16 => some s.2.2.1 | 17 => s.2.2.2.1 | _ => none)
  | 13 => (match k with | 1 => some s.2.2.2.2 | _ => none)
  | 14 => (match k with | 0 => some (A 327) | 1 => some (A 328) | 2 => some (b + 15) | 3 => some (b + 16) | _ => none)
  | 15 => (match k with | 0 => some b | _ => none)
  | 16 => (match k with | 0 => some b | _ => none)
  | 17 => (match k with | 0 => some (b + 18) | 1 => some (b + 19) | 2 => some (b + 20) | _ => none)
  | _ => none
def inB (b a : Nat) : Bool := decide (b ≤ a) && decide (a < b + 21)
def bst (G : Hp) (b : Nat) (s : Bs) : Hp :=
  ((fun a => if inB b a = true then bT (a - b) else G.1 a), (fun a => if inB b a = true then bN (a - b) else G.2.1 a),
   (fun a k => if inB b a = true then s.1 (a - b) k else G.2.2.1 a k), G.2.2.2.1,
   (fun a k => if inB b a = true then bR (gA G) b s (a - b) k else G.2.2.2.2.1 a k), G.2.2.2.2.2)
def bI (s : Bs) (j : Nat) (f : Rw) : Bs := (upr s.1 j f, s.2)
def bC (s : Bs) (q : Option Nat) : Bs := (s.1, s.2.1, s.2.2.1, q, s.2.2.2.2)
def bY (s : Bs) (t : Nat) : Bs := (s.1, s.2.1, t, s.2.2.2.1, s.2.2.2.2)
def bE (s : Bs) (e : Nat) : Bs := (s.1, s.2.1, s.2.2.1, s.2.2.2.1, e)
theorem inB_add {b j : Nat} (h : j < 21) : inB b (b + j) = true := by unfold inB; rw [decide_eq_true (by omega), decide_eq_true (by omega)]; rfl
theorem inB_0 {b : Nat} : inB b b = true := inB_add (j := 0) (by omega)
theorem inB_f {b a : Nat} : inB b a = false ↔ a < b ∨ b + 21 ≤ a := by
  unfold inB
  by_cases h : b ≤ a <;> by_cases h2 : a < b + 21 <;> simp [h, h2] <;> omega
section BW
variable {G : Hp} {b : Nat} {s : Bs}
theorem bst_T0 : gT (bst G b s) b = 6 := by
  show (if inB b b = true then bT (b - b) else _) = _
  rw [if_pos inB_0, Nat.sub_self]; rfl
theorem bst_T {j : Nat} (h : j < 21) : gT (bst G b s) (b + j) = bT j := by
  show (if inB b (b + j) = true then bT (b + j - b) else _) = _
  rw [if_pos (inB_add h), Nat.add_sub_cancel_left]
theorem bst_N {j : Nat} (h : j < 21) : gN (bst G b s) (b + j) = bN j := by
  show (if inB b (b + j) = true then bN (b + j - b) else _) = _
  rw [if_pos (inB_add h), Nat.add_sub_cancel_left]
theorem bst_I0 {k : Nat} : gI (bst G b s) b k = s.1 0 k := by
  show (if inB b b = true then s.1 (b - b) k else _) = _
  rw [if_pos inB_0, Nat.sub_self]
theorem bst_I {j k : Nat} (h : j < 21) : gI (bst G b s) (b + j) k = s.1 j k := by
  show (if inB b (b + j) = true then s.1 (b + j - b) k else _) = _
  rw [if_pos (inB_add h), Nat.add_sub_cancel_left]
theorem bst_R0 {k : Nat} : gR (bst G b s) b k = bR (gA G) b s 0 k := by
  show (if inB b b = true then bR (gA G) b s (b - b) k else _) = _
  rw [if_pos inB_0, Nat.sub_self]
theorem bst_R {j k : Nat} (h : j < 21) : gR (bst G b s) (b + j) k = bR (gA G) b s j k := by
  show (if inB b (b + j) = true then bR (gA G) b s (b + j - b) k else _) = _
  rw [if_pos (inB_add h), Nat.add_sub_cancel_left]
theorem bst_Tr {a : Nat} (h : inB b a = false) : gT (bst G b s) a = gT G a := if_neg (by rw [h]; decide)
theorem bst_Nr {a : Nat} (h : inB b a = false) : gN (bst G b s) a = gN G a := if_neg (by rw [h]; decide)
theorem bst_Ir {a k : Nat} (h : inB b a = false) : gI (bst G b s) a k = gI G a k := if_neg (by rw [h]; decide)
theorem bst_Rr {a k : Nat} (h : inB b a = false) : gR (bst G b s) a k = gR G a k := if_neg (by rw [h]; decide)
theorem bst_Irr {a : Nat} (h : inB b a = false) : gI (bst G b s) a = gI G a := funext fun _ => bst_Ir h
theorem bst_Rrr {a : Nat} (h : inB b a = false) : gR (bst G b s) a = gR G a := funext fun _ => bst_Rr h
theorem bst_Irow {j : Nat} (h : j < 21) : gI (bst G b s) (b + j) = s.1 j := funext fun _ => bst_I h
theorem bst_B : gB (bst G b s) = gB G := id rfl
theorem bst_X : gX (bst G b s) = gX G := id rfl
theorem bst_S : gS (bst G b s) = gS G := id rfl
theorem bst_A {i : Nat} : gA (bst G b s) i = gA G i := id rfl
theorem bst_J {a k : Nat} : gJ (bst G b s) a k = gJ G a k := id rfl
theorem bst_sI {j k : Nat} {x : Int32} (h : j < 21) : sI (bst G b s) (b + j) k x = bst G b (bI s j (va_up (s.1 j) k x)) := by
  have q := congrArg (fun f => bst G b (f, s.2)) (up2_upr s.1 j k x)
  refine Eq.trans ?_ q
  unfold sI bst
  refine congrArg (fun z => ((bst G b s).1, (bst G b s).2.1, z, (bst G b s).2.2.2)) ?_
  funext a q
  unfold up2
  dsimp only
  by_cases hm : inB b a = true
  · rw [if_pos hm, if_pos hm]
    unfold inB at hm
    simp only [Bool.and_eq_true, decide_eq_true_eq] at hm
    by_cases e : a = b + j ∧ q = k
    · rw [if_pos e, if_pos ⟨by omega, e.2⟩]
    · rw [if_neg e, if_neg (fun z => e ⟨by omega, z.2⟩)]
  · rw [if_neg hm, if_neg hm]
    refine if_neg (fun z => hm ?_)
    rw [z.1]
    exact inB_add h
theorem bst_sI0 {k : Nat} {x : Int32} : sI (bst G b s) b k x = bst G b (bI s 0 (va_up (s.1 0) k x)) := bst_sI (j := 0) (by omega)
theorem bst_sIr {j : Nat} {f : Rw} (h : j < 21) : sIr (bst G b s) (b + j) f = bst G b (bI s j f) := by
  unfold sIr bst
  refine congrArg (fun z => ((bst G b s).1, (bst G b s).2.1, z, (bst G b s).2.2.2)) ?_
  funext a q
  unfold upr bI upr
  dsimp only
  by_cases e : a = b + j
  · subst e
    rw [if_pos rfl, if_pos (inB_add h), if_pos (by omega)]
  · rw [if_neg e]
    by_cases hm : inB b a = true
    · have hm' := hm
      unfold inB at hm'
      simp only [Bool.and_eq_true, decide_eq_true_eq] at hm'
      rw [if_pos hm, if_neg (show ¬ a - b = j by omega)]
      exact (if_pos hm).symm
    · rw [if_neg hm]
      exact (if_neg hm).symm
theorem bst_sRj {j k : Nat} {x : Option Nat} {s' : Bs} (h : j < 21) (h1 : s'.1 = s.1) (h2 : ∀ i q, bR (gA G) b s' i q = if i = j ∧ q = k then x else bR (gA G) b s i q) : sR (bst G b s) (b + j) k x = bst G b s' := by
  unfold sR bst
  rw [h1]
  refine congrArg (fun z => ((bst G b s).1, (bst G b s).2.1, (bst G b s).2.2.1, G.2.2.2.1, z, G.2.2.2.2.2)) ?_
  funext a q
  unfold up2
  dsimp only
  by_cases hm : inB b a = true
  · rw [if_pos hm, if_pos hm, h2]
    unfold inB at hm
    simp only [Bool.and_eq_true, decide_eq_true_eq] at hm
    by_cases e : a = b + j ∧ q = k
    · rw [if_pos e, if_pos ⟨by omega, e.2⟩]
    · rw [if_neg e, if_neg (fun z => e ⟨by omega, z.2⟩)]
  · rw [if_neg hm, if_neg hm]
    refine if_neg (fun z => hm ?_)
    rw [z.1]
    exact inB_add h
theorem bst_sC {x : Option Nat} : sR (bst G b s) b 17 x = bst G b (bC s x) := by
  refine bst_sRj (j := 0) (by omega) rfl ?_
  intro i q
  by_cases e : i = 0 ∧ q = 17
  · rw [if_pos e, e.1, e.2]; rfl
  · rw [if_neg e]
    unfold bC bR
    split
    · split <;> first | rfl | (exact absurd ⟨rfl, rfl⟩ e)
    all_goals rfl
theorem bst_sY {t : Nat} : sR (bst G b s) b 16 (some t) = bst G b (bY s t) := by
  refine bst_sRj (j := 0) (by omega) rfl ?_
  intro i q
  by_cases e : i = 0 ∧ q = 16
  · rw [if_pos e, e.1, e.2]; rfl
  · rw [if_neg e]
    unfold bY bR
    split
    · split <;> first | rfl | (exact absurd ⟨rfl, rfl⟩ e)
    all_goals rfl
theorem bst_sE {t : Nat} : sR (bst G b s) (b + 13) 1 (some t) = bst G b (bE s t) := by
  refine bst_sRj (j := 13) (by omega) rfl ?_
  intro i q
  by_cases e : i = 13 ∧ q = 1
  · rw [if_pos e, e.1, e.2]; rfl
  · rw [if_neg e]
    unfold bE bR
    split <;> first | rfl | (split <;> first | rfl | (exact absurd ⟨rfl, rfl⟩ e))
theorem bst_sIo {a k : Nat} {x : Int32} (h : inB b a = false) : sI (bst G b s) a k x = bst (sI G a k x) b s := by
  unfold sI bst
  refine congrArg (fun z => ((bst G b s).1, (bst G b s).2.1, z, (bst G b s).2.2.2)) ?_
  funext a' q
  unfold up2
  dsimp only
  by_cases hm : inB b a' = true
  · rw [if_pos hm, if_pos hm, if_neg (fun z => by rw [z.1, h] at hm; cases hm)]
  · rw [if_neg hm, if_neg hm]
theorem bst_sRo {a k : Nat} {x : Option Nat} (h : inB b a = false) : sR (bst G b s) a k x = bst (sR G a k x) b s := by
  unfold sR bst
  refine congrArg (fun z => ((bst G b s).1, (bst G b s).2.1, (bst G b s).2.2.1, G.2.2.2.1, z, G.2.2.2.2.2)) ?_
  funext a' q
  unfold up2
  dsimp only
  by_cases hm : inB b a' = true
  · rw [if_pos hm, if_pos hm, if_neg (fun z => by rw [z.1, h] at hm; cases hm)]; rfl
  · rw [if_neg hm, if_neg hm]
theorem bst_sRro {a : Nat} {f : Nat → Option Nat} (h : inB b a = false) : sRr (bst G b s) a f = bst (sRr G a f) b s := by
  unfold sRr bst
  refine congrArg (fun z => ((bst G b s).1, (bst G b s).2.1, (bst G b s).2.2.1, G.2.2.2.1, z, G.2.2.2.2.2)) ?_
  funext a' q
  unfold upr
  dsimp only
  by_cases e : a' = a
  · subst e
    rw [if_pos rfl, if_neg (by rw [h]; decide), if_pos rfl]
  · rw [if_neg e, if_neg e]
    by_cases hm : inB b a' = true
    · rw [if_pos hm, if_pos hm]; rfl
    · rw [if_neg hm, if_neg hm]
end BW
section
variable {s : Bs}
theorem bI_s {j : Nat} {f : Rw} : (bI s j f).1 j = f := if_pos rfl
theorem bI_o {i j : Nat} {f : Rw} (h : ¬ i = j) : (bI s j f).1 i = s.1 i := if_neg h
theorem bI_2 {j : Nat} {f : Rw} : (bI s j f).2 = s.2 := id rfl
theorem bC_1 {q : Option Nat} : (bC s q).1 = s.1 := id rfl
theorem bY_1 {q : Nat} : (bY s q).1 = s.1 := id rfl
theorem bE_1 {q : Nat} : (bE s q).1 = s.1 := id rfl
theorem bI_bI {j : Nat} {f g : Rw} : bI (bI s j f) j g = bI s j g := by unfold bI; dsimp only; rw [upr_upr]
theorem bI_c {i j : Nat} {f g : Rw} (h : j < i) : bI (bI s i f) j g = bI (bI s j g) i f := by unfold bI; dsimp only; rw [upr_comm _ (by omega)]
theorem bI_id {j : Nat} : bI s j (s.1 j) = s := by unfold bI; rw [upr_self]
end
theorem c1_null : c1 .null = true := id rfl
theorem c1_va (r : Option Nat) : c1 (va_rf r) = true := by cases r <;> rfl
theorem rvo_n : rvo .null = none := id rfl
theorem rvo_r (a : Nat) : rvo (.ref a) = some a := id rfl

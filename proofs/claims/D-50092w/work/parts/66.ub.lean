/-! a bus being made: the first n of its cells are there; ints, references so far -/
abbrev IF : Type := Nat → Nat → Int32
abbrev RF : Type := Nat → Nat → Option Nat
def inU (b n a : Nat) : Bool := decide (b ≤ a) && decide (a < b + n)
def ub (T N : Nat → Nat) (G : Hp) (b n S : Nat) (U : IF) (V : RF) : Hp :=
  ((fun a => if inU b n a = true then T (a - b) else G.1 a), (fun a => if inU b n a = true then N (a - b) else G.2.1 a),
   (fun a k => if inU b n a = true then U (a - b) k else G.2.2.1 a k), (fun a k => if inU b n a = true then 0 else G.2.2.2.1 a k),
   (fun a k => if inU b n a = true then V (a - b) k else G.2.2.2.2.1 a k), b + n, S, G.2.2.2.2.2.2.2)
theorem inU_add {b n j : Nat} (h : j < n) : inU b n (b + j) = true := by unfold inU; rw [decide_eq_true (by omega), decide_eq_true (by omega)]; rfl
theorem inU_0 {b n : Nat} (h : 0 < n) : inU b n b = true := inU_add (j := 0) h
theorem inU_f {b n a : Nat} : inU b n a = false ↔ a < b ∨ b + n ≤ a := by
  unfold inU
  by_cases h : b ≤ a <;> by_cases h2 : a < b + n <;> simp [h, h2] <;> omega
section
variable {T N : Nat → Nat} {G : Hp} {b n S : Nat} {U : IF} {V : RF}
theorem ub_T {j : Nat} (h : j < n) : gT (ub T N G b n S U V) (b + j) = T j := by
  show (if inU b n (b + j) = true then T (b + j - b) else _) = _
  rw [if_pos (inU_add h), Nat.add_sub_cancel_left]
theorem ub_N {j : Nat} (h : j < n) : gN (ub T N G b n S U V) (b + j) = N j := by
  show (if inU b n (b + j) = true then N (b + j - b) else _) = _
  rw [if_pos (inU_add h), Nat.add_sub_cancel_left]
theorem ub_I {j k : Nat} (h : j < n) : gI (ub T N G b n S U V) (b + j) k = U j k := by
  show (if inU b n (b + j) = true then U (b + j - b) k else _) = _
  rw [if_pos (inU_add h), Nat.add_sub_cancel_left]
theorem ub_R {j k : Nat} (h : j < n) : gR (ub T N G b n S U V) (b + j) k = V j k := by
  show (if inU b n (b + j) = true then V (b + j - b) k else _) = _
  rw [if_pos (inU_add h), Nat.add_sub_cancel_left]
theorem ub_T0 (h : 0 < n) : gT (ub T N G b n S U V) b = T 0 := ub_T (j := 0) h
theorem ub_N0 (h : 0 < n) : gN (ub T N G b n S U V) b = N 0 := ub_N (j := 0) h
theorem ub_I0 {k : Nat} (h : 0 < n) : gI (ub T N G b n S U V) b k = U 0 k := ub_I (j := 0) h
theorem ub_R0 {k : Nat} (h : 0 < n) : gR (ub T N G b n S U V) b k = V 0 k := ub_R (j := 0) h
theorem ub_Tr {a : Nat} (h : inU b n a = false) : gT (ub T N G b n S U V) a = gT G a := if_neg (by rw [h]; decide)
theorem ub_Nr {a : Nat} (h : inU b n a = false) : gN (ub T N G b n S U V) a = gN G a := if_neg (by rw [h]; decide)
theorem ub_Ir {a k : Nat} (h : inU b n a = false) : gI (ub T N G b n S U V) a k = gI G a k := if_neg (by rw [h]; decide)
theorem ub_Jr {a k : Nat} (h : inU b n a = false) : gJ (ub T N G b n S U V) a k = gJ G a k := if_neg (by rw [h]; decide)
theorem ub_Rr {a k : Nat} (h : inU b n a = false) : gR (ub T N G b n S U V) a k = gR G a k := if_neg (by rw [h]; decide)
theorem ub_B : gB (ub T N G b n S U V) = gB G := id rfl
theorem ub_A {i : Nat} : gA (ub T N G b n S U V) i = gA G i := id rfl
theorem ub_X : gX (ub T N G b n S U V) = b + n := id rfl
theorem ub_S : gS (ub T N G b n S U V) = S := id rfl
theorem ub_ite {α : Type} (A : Nat → α) (B : Nat → α) (x : α) : (fun a => if a = b + n then x else if inU b n a = true then A (a - b) else B a) = fun a => if inU b (n + 1) a = true then (if a - b = n then x else A (a - b)) else B a := by
  funext a
  by_cases e : a = b + n
  · rw [if_pos e, if_pos (by rw [e]; exact inU_add (by omega)), if_pos (by omega)]
  · rw [if_neg e]
    by_cases h : inU b n a = true
    · have h' := h
      unfold inU at h'
      simp only [Bool.and_eq_true, decide_eq_true_eq] at h'
      rw [if_pos h, if_pos (by unfold inU; simp; omega), if_neg (by omega)]
    · have h' := h
      rw [Bool.not_eq_true, inU_f] at h'
      rw [if_neg h, if_neg (by rw [Bool.not_eq_true, inU_f]; omega)]
theorem ub_nw {t k : Nat} (hT : T n = t) (hN : N n = k) : nw (ub T N G b n S U V) t k = ub T N G b (n + 1) (S + k) (upr U n (fun _ => 0)) (upr V n (fun _ => none)) := by
  have e1 : (fun a => if inU b (n + 1) a = true then (if a - b = n then t else T (a - b)) else G.1 a) = fun a => if inU b (n + 1) a = true then T (a - b) else G.1 a := by
    funext a; by_cases e : a - b = n
    · rw [if_pos e, ← hT, e]
    · rw [if_neg e]
  have e2 : (fun a => if inU b (n + 1) a = true then (if a - b = n then k else N (a - b)) else G.2.1 a) = fun a => if inU b (n + 1) a = true then N (a - b) else G.2.1 a := by
    funext a; by_cases e : a - b = n
    · rw [if_pos e, ← hN, e]
    · rw [if_neg e]
  have q1 := ub_ite (b := b) (n := n) T G.1 t
  have q2 := ub_ite (b := b) (n := n) N G.2.1 k
  have q3 := ub_ite (b := b) (n := n) U G.2.2.1 (fun _ => 0)
  have q4 := ub_ite (b := b) (n := n) (fun _ _ => (0 : Int64)) G.2.2.2.1 (fun _ => 0)
  have q5 := ub_ite (b := b) (n := n) V G.2.2.2.2.1 (fun _ => none)
  rw [e1] at q1
  rw [e2] at q2
  unfold nw ub
  refine Prod.ext ?_ (Prod.ext ?_ (Prod.ext ?_ (Prod.ext ?_ (Prod.ext ?_ (Prod.ext ?_ rfl)))))
  · exact q1
  · exact q2
  · refine Eq.trans ?_ (q3.trans ?_)
    · funext a j
      show (if a = b + n then _ else fun k => if inU b n a = true then U (a - b) k else G.2.2.1 a k) j = (if a = b + n then _ else if inU b n a = true then U (a - b) else G.2.2.1 a) j
      by_cases e : a = b + n
      · rw [if_pos e, if_pos e]
      · rw [if_neg e, if_neg e]
        by_cases h : inU b n a = true
        · rw [if_pos h, if_pos h]
        · rw [if_neg h, if_neg h]
    · funext a j
      show (if inU b (n + 1) a = true then (if a - b = n then _ else U (a - b)) else G.2.2.1 a) j = if inU b (n + 1) a = true then upr U n (fun _ => 0) (a - b) j else G.2.2.1 a j
      by_cases h : inU b (n + 1) a = true
      · rw [if_pos h, if_pos h]; rfl
      · rw [if_neg h, if_neg h]
  · refine Eq.trans ?_ (q4.trans ?_)
    · funext a j
      show (if a = b + n then _ else fun k => if inU b n a = true then 0 else G.2.2.2.1 a k) j = (if a = b + n then _ else if inU b n a = true then (fun _ => 0) else G.2.2.2.1 a) j
      by_cases e : a = b + n
      · rw [if_pos e, if_pos e]
      · rw [if_neg e, if_neg e]
        by_cases h : inU b n a = true
        · rw [if_pos h, if_pos h]
        · rw [if_neg h, if_neg h]
    · funext a j
      show (if inU b (n + 1) a = true then (if a - b = n then _ else (fun _ => 0)) else G.2.2.2.1 a) j = if inU b (n + 1) a = true then 0 else G.2.2.2.1 a j
      by_cases h : inU b (n + 1) a = true
      · rw [if_pos h, if_pos h]; split <;> rfl
      · rw [if_neg h, if_neg h]
  · refine Eq.trans ?_ (q5.trans ?_)
    · funext a j
      show (if a = b + n then _ else fun k => if inU b n a = true then V (a - b) k else G.2.2.2.2.1 a k) j = (if a = b + n then _ else if inU b n a = true then V (a - b) else G.2.2.2.2.1 a) j
      by_cases e : a = b + n
      · rw [if_pos e, if_pos e]
      · rw [if_neg e, if_neg e]
        by_cases h : inU b n a = true
        · rw [if_pos h, if_pos h]
        · rw [if_neg h, if_neg h]
    · funext a j
      show (if inU b (n + 1) a = true then (if a - b = n then _ else V (a - b)) else G.2.2.2.2.1 a) j = if inU b (n + 1) a = true then upr V n (fun _ => none) (a - b) j else G.2.2.2.2.1 a j
      by_cases h : inU b (n + 1) a = true
      · rw [if_pos h, if_pos h]; rfl
      · rw [if_neg h, if_neg h]
  · rfl
theorem ub_sR {j k : Nat} {x : Option Nat} (h : j < n) : sR (ub T N G b n S U V) (b + j) k x = ub T N G b n S U (up2 V j k x) := by
  unfold sR ub
  refine Prod.ext rfl (Prod.ext rfl (Prod.ext rfl (Prod.ext rfl (Prod.ext ?_ rfl))))
  funext a q
  show (if a = b + j ∧ q = k then x else if inU b n a = true then V (a - b) q else G.2.2.2.2.1 a q) = if inU b n a = true then (if a - b = j ∧ q = k then x else V (a - b) q) else G.2.2.2.2.1 a q
  by_cases hm : inU b n a = true
  · rw [if_pos hm, if_pos hm]
    unfold inU at hm
    simp only [Bool.and_eq_true, decide_eq_true_eq] at hm
    by_cases e : a = b + j ∧ q = k
    · rw [if_pos e, if_pos ⟨by omega, e.2⟩]
    · rw [if_neg e, if_neg (fun z => e ⟨by omega, z.2⟩)]
  · rw [if_neg hm, if_neg hm]
    refine if_neg (fun z => hm ?_)
    rw [z.1]
    exact inU_add h
theorem ub_sI {j k : Nat} {x : Int32} (h : j < n) : sI (ub T N G b n S U V) (b + j) k x = ub T N G b n S (up2 U j k x) V := by
  unfold sI ub
  refine Prod.ext rfl (Prod.ext rfl (Prod.ext ?_ rfl))
  funext a q
  show (if a = b + j ∧ q = k then x else if inU b n a = true then U (a - b) q else G.2.2.1 a q) = if inU b n a = true then (if a - b = j ∧ q = k then x else U (a - b) q) else G.2.2.1 a q
  by_cases hm : inU b n a = true
  · rw [if_pos hm, if_pos hm]
    unfold inU at hm
    simp only [Bool.and_eq_true, decide_eq_true_eq] at hm
    by_cases e : a = b + j ∧ q = k
    · rw [if_pos e, if_pos ⟨by omega, e.2⟩]
    · rw [if_neg e, if_neg (fun z => e ⟨by omega, z.2⟩)]
  · rw [if_neg hm, if_neg hm]
    refine if_neg (fun z => hm ?_)
    rw [z.1]
    exact inU_add h
theorem ub_sR0 {k : Nat} {x : Option Nat} (h : 0 < n) : sR (ub T N G b n S U V) b k x = ub T N G b n S U (up2 V 0 k x) := ub_sR (j := 0) h
theorem ub_sI0 {k : Nat} {x : Int32} (h : 0 < n) : sI (ub T N G b n S U V) b k x = ub T N G b n S (up2 U 0 k x) V := ub_sI (j := 0) h
/-- the first cell -/
theorem ub_1 {t k : Nat} (hT : T 0 = t) (hN : N 0 = k) : nw G t k = ub T N G (gX G) 1 (gS G + k) (fun _ _ => 0) (fun _ _ => none) := by
  have e0 : G = ub T N G (gX G) 0 (gS G) (fun _ _ => 0) (fun _ _ => none) := by
    have hf : ∀ a, ¬ inU (gX G) 0 a = true := fun a => by rw [Bool.not_eq_true, inU_f]; omega
    unfold ub
    refine Prod.ext (funext fun a => (if_neg (hf a)).symm) (Prod.ext (funext fun a => (if_neg (hf a)).symm) (Prod.ext (funext fun a => funext fun j => (if_neg (hf a)).symm) (Prod.ext (funext fun a => funext fun j => (if_neg (hf a)).symm) (Prod.ext (funext fun a => funext fun j => (if_neg (hf a)).symm) rfl))))
  have h := ub_nw (T := T) (N := N) (G := G) (b := gX G) (n := 0) (S := gS G) (U := fun _ _ => 0) (V := fun _ _ => none) hT hN
  rw [← e0] at h
  rw [h]
  have h1 : upr (fun _ _ => (0 : Int32)) 0 (fun _ => 0) = fun _ _ => 0 := by funext a; unfold upr; split <;> rfl
  have h2 : upr (fun _ _ => (none : Option Nat)) 0 (fun _ => none) = fun _ _ => none := by funext a; unfold upr; split <;> rfl
  rw [h1, h2]
end
theorem upr_0 {n : Nat} : upr (fun _ _ => (0 : Int32)) n (fun _ => 0) = fun _ _ => 0 := by funext a; unfold upr; split <;> rfl

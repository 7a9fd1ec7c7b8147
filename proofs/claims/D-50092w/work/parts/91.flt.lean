/-! numbers with a point: a quotient of whole numbers is a number -/
section
def FF (f : FP.Core.Fmt) : Prop := 0 < f.tails ∧ 2 ^ f.p = 2 * f.tails ∧ ((f.qmax - f.qmin).toNat + 3 = f.exps ∧ f.qmin ≤ f.qmax) ∧ 40 ≤ f.qmax ∧ f.qmin ≤ 0 ∧ 1 ≤ f.p
theorem ff64 : FF FP.Core.b64 := by unfold FF; decide
theorem ff32 : FF FP.Core.b32 := by unfold FF; decide
/-- a number that can be written -/
def okF (f : FP.Core.Fmt) (d : FP.Core.Datum) : Prop := match d with
  | .nan => False
  | .inf _ => True
  | .fin _ c q => c < 2 ^ f.p ∧ q ≤ f.qmax
variable {f : FP.Core.Fmt}
theorem okF_bound {s : Bool} {c : Nat} {q : Int} (h : c < 2 ^ f.p) : okF f (FP.Core.bound f s c q) := by
  unfold FP.Core.bound
  split
  · rename_i h2; exact ⟨h, h2⟩
  · trivial
theorem okF_settle (hf : FF f) {s : Bool} {c : Nat} {q : Int} : okF f (FP.Core.settle f s c q) := by
  unfold FP.Core.settle
  split
  · rename_i h; exact okF_bound h
  · exact okF_bound (by have := hf.1; have := hf.2.1; omega)
theorem okF_ratio (hf : FF f) {s : Bool} {a b : Nat} {e : Int} : okF f (FP.Core.roundRatio f s a b e) := by
  unfold FP.Core.roundRatio
  split
  · exact ⟨by have := hf.1; have := hf.2.1; omega, hf.2.2.1.2⟩
  · exact okF_settle hf
theorem okF_round (hf : FF f) {d : FP.Core.Datum} (h : ¬ d = .nan) : okF f (FP.Core.round f d) := by
  cases d with
  | nan => exact absurd rfl h
  | inf s => trivial
  | fin s c q => exact okF_ratio hf
theorem asm_T {s : Bool} {e t : Nat} (ht : t < f.tails) : FP.Core.fieldT f (FP.Core.assemble f s e t) = t := by
  unfold FP.Core.fieldT FP.Core.assemble
  rw [Nat.mul_comm, Nat.mul_add_mod, Nat.mod_eq_of_lt ht]
theorem asm_d {s : Bool} {e t : Nat} (ht : t < f.tails) : FP.Core.assemble f s e t / f.tails = s.toNat * f.exps + e := by
  unfold FP.Core.assemble
  rw [Nat.mul_comm, Nat.mul_add_div (by omega), Nat.div_eq_of_lt ht, Nat.add_zero]
theorem asm_E {s : Bool} {e t : Nat} (ht : t < f.tails) (he : e < f.exps) : FP.Core.fieldE f (FP.Core.assemble f s e t) = e := by
  unfold FP.Core.fieldE
  rw [asm_d ht, Nat.mul_comm, Nat.mul_add_mod, Nat.mod_eq_of_lt he]
/-- written: the fields -/
theorem enc_asm (hf : FF f) {d : FP.Core.Datum} (h : okF f d) : ∃ s e t, FP.Core.encode f d = FP.Core.assemble f s e t ∧ t < f.tails ∧ e < f.exps ∧ (e = f.exps - 1 → t = 0) ∧ match d with
    | .nan => False
    | .inf _ => e = f.exps - 1
    | .fin _ c _ => ¬ e = f.exps - 1 ∧ (¬ c = 0 → ¬ (e = 0 ∧ t = 0)) := by
  obtain ⟨h1, h2, ⟨h3, h3'⟩, h4, h5⟩ := hf
  cases d with
  | nan => exact absurd h id
  | inf s => exact ⟨s, f.exps - 1, 0, rfl, h1, by omega, fun _ => rfl, rfl⟩
  | fin s c q =>
    obtain ⟨a1, a2⟩ := h
    unfold FP.Core.encode
    by_cases hc : c < f.tails
    · refine ⟨s, 0, c, if_pos hc, hc, by omega, fun z => by omega, by omega, fun z y => z y.2⟩
    · refine ⟨s, (q - f.qmin).toNat + 1, c - f.tails, if_neg hc, by omega, by omega, fun z => by omega, by omega, fun _ y => by omega⟩
theorem dec_enc (hf : FF f) {d : FP.Core.Datum} (h : okF f d) : ¬ FP.Core.decode f (FP.Core.encode f d) = .nan ∧ (∀ s c q, d = .fin s c q → ∃ s' c' q', FP.Core.decode f (FP.Core.encode f d) = .fin s' c' q' ∧ (¬ c = 0 → ¬ c' = 0)) := by
  obtain ⟨s, e, t, h1, h2, h3, h4, h5⟩ := enc_asm hf h
  rw [h1]
  unfold FP.Core.decode
  rw [asm_E h2 h3, asm_T h2]
  refine ⟨?_, fun s' c q hd => ?_⟩
  · split
    · rename_i y
      rw [if_pos (h4 y)]; intro z; cases z
    · split <;> (intro z; cases z)
  · subst hd
    obtain ⟨g1, g2⟩ := h5
    rw [if_neg g1]
    by_cases e0 : e = 0
    · rw [if_pos e0]
      exact ⟨_, _, _, rfl, fun z y => g2 z ⟨e0, y⟩⟩
    · rw [if_neg e0]
      exact ⟨_, _, _, rfl, fun z y => by have := hf.1; omega⟩
/-- a whole number, rounded -/
theorem fromInt_fin (hf : FF f) (i : Int) (hi : i.natAbs < 2 ^ 40) : ∃ s c q, FP.Core.round f (FP.Core.ofInt i) = .fin s c q ∧ okF f (.fin s c q) ∧ (¬ i = 0 → ¬ c = 0) := by
  have hok : okF f (FP.Core.round f (FP.Core.ofInt i)) := okF_round hf (by unfold FP.Core.ofInt; intro z; cases z)
  obtain ⟨h1, h2, ⟨h3, h3'⟩, h4, h5, h6⟩ := hf
  by_cases i0 : i = 0
  · subst i0
    refine ⟨_, _, _, rfl, hok, fun z => absurd rfl z⟩
  have n0 : ¬ i.natAbs = 0 := by omega
  have e : FP.Core.round f (FP.Core.ofInt i) = FP.Core.settle f (decide (i < 0)) (FP.Core.nearest (FP.Core.unitsNum i.natAbs 0 (FP.Core.quantum f i.natAbs 1 0)) (FP.Core.unitsDen 1 0 (FP.Core.quantum f i.natAbs 1 0))) (FP.Core.quantum f i.natAbs 1 0) := by
    show FP.Core.roundRatio f _ i.natAbs 1 0 = _
    unfold FP.Core.roundRatio
    rw [if_neg n0]; rfl
  have hl := Nat.log2_self_le n0
  have hlt : i.natAbs.log2 < 40 := (Nat.log2_lt n0).mpr hi
  have hlead : FP.Core.leading i.natAbs 1 = (i.natAbs.log2 : Int) := by
    unfold FP.Core.leading
    have z1 : Nat.log2 1 = 0 := by decide
    rw [z1]
    dsimp only
    have : ((i.natAbs.log2 : Int) - ((0 : Nat) : Int)).toNat = i.natAbs.log2 := by omega
    have z2 : (-((i.natAbs.log2 : Int) - ((0 : Nat) : Int))).toNat = 0 := by omega
    rw [this, z2, if_pos (by omega)]
    omega
  obtain ⟨q, hq⟩ : ∃ q, q = FP.Core.quantum f i.natAbs 1 0 := ⟨_, rfl⟩
  have hqv : q = max f.qmin ((i.natAbs.log2 : Int) + 0 - ((f.p : Int) - 1)) := by rw [hq]; unfold FP.Core.quantum; rw [hlead]
  have hq1 : q ≤ 39 := by omega
  -- at least one
  have hc1 : 1 ≤ FP.Core.nearest (FP.Core.unitsNum i.natAbs 0 q) (FP.Core.unitsDen 1 0 q) := by
    have hge : 1 ≤ FP.Core.unitsNum i.natAbs 0 q / FP.Core.unitsDen 1 0 q := by
      unfold FP.Core.unitsNum FP.Core.unitsDen
      rw [Nat.one_mul]
      by_cases y : q ≤ 0
      · have : (q - 0).toNat = 0 := by omega
        rw [this, Nat.pow_zero, Nat.div_one]
        exact Nat.mul_pos (by omega) (Nat.two_pow_pos _)
      · have e1 : (0 - q).toNat = 0 := by omega
        rw [e1, Nat.pow_zero, Nat.mul_one]
        refine (Nat.one_le_div_iff (Nat.two_pow_pos _)).mpr (Nat.le_trans (Nat.pow_le_pow_right (by omega) ?_) hl)
        omega
    unfold FP.Core.nearest
    split
    · exact hge
    · split
      · omega
      · omega
  rw [← hq] at e
  rw [e] at hok ⊢
  unfold FP.Core.settle FP.Core.bound at hok ⊢
  by_cases y : FP.Core.nearest (FP.Core.unitsNum i.natAbs 0 q) (FP.Core.unitsDen 1 0 q) < 2 ^ f.p
  · rw [if_pos y, if_pos (show q ≤ f.qmax by omega)] at hok ⊢
    exact ⟨_, _, _, rfl, hok, fun _ => by omega⟩
  · rw [if_neg y, if_pos (show q + 1 ≤ f.qmax by omega)] at hok ⊢
    exact ⟨_, _, _, rfl, hok, fun _ => by omega⟩
/-- a quotient of whole numbers -/
theorem okF_quot (hf : FF f) {a b : Int} (ha : a.natAbs < 2 ^ 40) (hb : b.natAbs < 2 ^ 40) (h0 : ¬ b = 0) : okF f (FP.Core.quotient f (FP.Core.decode f (FP.Core.fromInt f a)) (FP.Core.decode f (FP.Core.fromInt f b))) := by
  obtain ⟨s1, c1, q1, e1, o1, -⟩ := fromInt_fin hf a ha
  obtain ⟨s2, c2, q2, e2, o2, n2⟩ := fromInt_fin hf b hb
  unfold FP.Core.fromInt
  rw [e1, e2]
  obtain ⟨t1, d1, p1, g1, -⟩ := (dec_enc hf o1).2 s1 c1 q1 rfl
  obtain ⟨t2, d2, p2, g2, m2⟩ := (dec_enc hf o2).2 s2 c2 q2 rfl
  rw [g1, g2]
  unfold FP.Core.quotient
  dsimp only
  rw [if_neg (m2 (n2 h0))]
  exact okF_ratio hf
/-- written numbers as bits -/
theorem enc64 {d : FP.Core.Datum} (h : okF FP.Core.b64 d) : FP.Core.encode FP.Core.b64 d < 2 ^ 64 ∧ FP.Core.encode FP.Core.b64 d % 2 ^ 63 ≤ 0x7ff0000000000000 := by
  obtain ⟨s, e, t, h1, h2, h3, h4, -⟩ := enc_asm ff64 h
  rw [h1]
  have hT : FP.Core.b64.tails = 2 ^ 52 := by decide
  have hE : FP.Core.b64.exps = 2048 := by decide
  unfold FP.Core.assemble
  rw [hT] at h2 ⊢
  rw [hE] at h3 h4 ⊢
  have hb : s.toNat ≤ 1 := by cases s <;> decide
  have e1 : (s.toNat * 2048 + e) * 2 ^ 52 + t = s.toNat * 2 ^ 63 + (e * 2 ^ 52 + t) := by omega
  rw [e1]
  have h5 : e * 2 ^ 52 + t ≤ 0x7ff0000000000000 := by
    by_cases y : e = 2047
    · have := h4 (by omega); omega
    · omega
  constructor
  · omega
  · rw [Nat.mul_comm, Nat.mul_add_mod, Nat.mod_eq_of_lt (by omega)]; exact h5
theorem enc32 {d : FP.Core.Datum} (h : okF FP.Core.b32 d) : FP.Core.encode FP.Core.b32 d < 2 ^ 32 ∧ FP.Core.encode FP.Core.b32 d % 2 ^ 31 ≤ 0x7f800000 := by
  obtain ⟨s, e, t, h1, h2, h3, h4, -⟩ := enc_asm ff32 h
  rw [h1]
  have hT : FP.Core.b32.tails = 2 ^ 23 := by decide
  have hE : FP.Core.b32.exps = 256 := by decide
  unfold FP.Core.assemble
  rw [hT] at h2 ⊢
  rw [hE] at h3 h4 ⊢
  have hb : s.toNat ≤ 1 := by cases s <;> decide
  have e1 : (s.toNat * 256 + e) * 2 ^ 23 + t = s.toNat * 2 ^ 31 + (e * 2 ^ 23 + t) := by omega
  rw [e1]
  have h5 : e * 2 ^ 23 + t ≤ 0x7f800000 := by
    by_cases y : e = 255
    · have := h4 (by omega); omega
    · omega
  constructor
  · omega
  · rw [Nat.mul_comm, Nat.mul_add_mod, Nat.mod_eq_of_lt (by omega)]; exact h5
theorem nn64 {d : FP.Core.Datum} (h : okF FP.Core.b64 d) : (UInt64.ofNat (FP.Core.encode FP.Core.b64 d)) &&& 0x7fffffffffffffff ≤ 0x7ff0000000000000 ∧ FP.Core.decode FP.Core.b64 (UInt64.ofNat (FP.Core.encode FP.Core.b64 d)).toNat = FP.Core.decode FP.Core.b64 (FP.Core.encode FP.Core.b64 d) := by
  obtain ⟨h1, h2⟩ := enc64 h
  have e : (UInt64.ofNat (FP.Core.encode FP.Core.b64 d)).toNat = FP.Core.encode FP.Core.b64 d := by rw [UInt64.toNat_ofNat']; exact Nat.mod_eq_of_lt h1
  refine ⟨?_, by rw [e]⟩
  rw [UInt64.le_iff_toNat_le, UInt64.toNat_and, e]
  have m1 : (0x7fffffffffffffff : UInt64).toNat = 2 ^ 63 - 1 := by decide
  have m2 : (0x7ff0000000000000 : UInt64).toNat = 0x7ff0000000000000 := by decide
  rw [m1, m2, Nat.and_two_pow_sub_one_eq_mod]
  exact h2
theorem nn32 {d : FP.Core.Datum} (h : okF FP.Core.b32 d) : (UInt32.ofNat (FP.Core.encode FP.Core.b32 d)) &&& 0x7fffffff ≤ 0x7f800000 ∧ FP.Core.decode FP.Core.b32 (UInt32.ofNat (FP.Core.encode FP.Core.b32 d)).toNat = FP.Core.decode FP.Core.b32 (FP.Core.encode FP.Core.b32 d) := by
  obtain ⟨h1, h2⟩ := enc32 h
  have e : (UInt32.ofNat (FP.Core.encode FP.Core.b32 d)).toNat = FP.Core.encode FP.Core.b32 d := by rw [UInt32.toNat_ofNat']; exact Nat.mod_eq_of_lt h1
  refine ⟨?_, by rw [e]⟩
  rw [UInt32.le_iff_toNat_le, UInt32.toNat_and, e]
  have m1 : (0x7fffffff : UInt32).toNat = 2 ^ 31 - 1 := by decide
  have m2 : (0x7f800000 : UInt32).toNat = 0x7f800000 := by decide
  rw [m1, m2, Nat.and_two_pow_sub_one_eq_mod]
  exact h2
theorem i32_abs (a : Int32) : a.toInt.natAbs < 2 ^ 40 := by
  have h1 := Int32.toInt_lt a
  have h2 := Int32.le_toInt a
  omega
end

/-! pairs in an order, counted in another order -/
def bi (b : Bool) : Nat := if b = true then 1 else 0
def sn (f : Nat → Nat) : Nat → Nat
  | 0 => 0
  | n + 1 => sn f n + f n
theorem sn_congr {f g : Nat → Nat} {n : Nat} (h : ∀ k, k < n → f k = g k) : sn f n = sn g n := by
  induction n with
  | zero => rfl
  | succ n ih => unfold sn; rw [ih (fun k hk => h k (by omega)), h n (by omega)]
theorem sn_add {f g : Nat → Nat} {n : Nat} : sn (fun k => f k + g k) n = sn f n + sn g n := by
  induction n with
  | zero => rfl
  | succ n ih => unfold sn; rw [ih]; omega
theorem sn_0 {n : Nat} : sn (fun _ => 0) n = 0 := by
  induction n with
  | zero => rfl
  | succ n ih => unfold sn; rw [ih]
theorem sn_comm {f : Nat → Nat → Nat} {n m : Nat} : sn (fun p => sn (fun q => f p q) m) n = sn (fun q => sn (fun p => f p q) n) m := by
  induction n with
  | zero => exact (sn_0 (n := m)).symm
  | succ n ih =>
    show sn (fun p => sn (fun q => f p q) m) n + sn (fun q => f n q) m = sn (fun q => sn (fun p => f p q) n + f n q) m
    rw [ih, sn_add]
theorem cnt_sn {p : Nat → Bool} {n : Nat} : cnt p n = sn (fun k => bi (p k)) n := by
  induction n with
  | zero => rfl
  | succ n ih => unfold cnt sn; rw [ih]; rfl
theorem sn_up {f : Nat → Nat} {s : Nat → Nat} {j v K : Nat} (hj : j < K) : sn (fun k => f (va_up s j v k)) K + f (s j) = sn (fun k => f (s k)) K + f v := by
  induction K with
  | zero => omega
  | succ K ih =>
    unfold sn
    by_cases e : j = K
    · subst e
      have e1 : sn (fun k => f (va_up s j v k)) j = sn (fun k => f (s k)) j := sn_congr fun k hk => by unfold va_up; rw [if_neg (by omega)]
      have e2 : va_up s j v j = v := if_pos rfl
      rw [e1, e2]; omega
    · have := ih (by omega)
      have e2 : va_up s j v K = s K := if_neg (by omega)
      rw [e2]; omega
theorem sn_bij {f : Nat → Nat} : ∀ (K : Nat) (s t : Nat → Nat), (∀ k, k < K → s k < K ∧ t (s k) = k) → (∀ k, k < K → t k < K ∧ s (t k) = k) → sn (fun k => f (s k)) K = sn f K := by
  intro K
  induction K with
  | zero => intro s t _ _; rfl
  | succ K ih =>
    intro s t h1 h2
    obtain ⟨hj, ej⟩ := h2 K (by omega)
    by_cases e : t K = K
    · rw [e] at ej
      unfold sn
      rw [ej, ih s t (fun k hk => ?_) (fun k hk => ?_)]
      · obtain ⟨a1, a2⟩ := h1 k (by omega)
        refine ⟨?_, a2⟩
        by_cases q : s k = K
        · rw [q, e] at a2; omega
        · omega
      · obtain ⟨a1, a2⟩ := h2 k (by omega)
        refine ⟨?_, a2⟩
        by_cases q : t k = K
        · rw [q, ej] at a2; omega
        · omega
    · have hjK : t K < K := by omega
      obtain ⟨b1, b2⟩ := h1 K (by omega)
      have hsK : s K < K := by
        by_cases q : s K = K
        · rw [q] at b2; omega
        · omega
      have u := sn_up (f := f) (s := s) (v := s K) hjK
      rw [ej] at u
      have i := ih (va_up s (t K) (s K)) (va_up t (s K) (t K)) (fun k hk => ?_) (fun k hk => ?_)
      · unfold sn
        rw [i] at u
        omega
      · unfold va_up
        by_cases q : k = t K
        · rw [if_pos q]; exact ⟨hsK, by rw [if_pos rfl, q]⟩
        · rw [if_neg q]
          obtain ⟨a1, a2⟩ := h1 k (by omega)
          have n1 : ¬ s k = K := fun z => q (by rw [← z, a2])
          have n2 : ¬ s k = s K := fun z => by rw [z, b2] at a2; omega
          rw [if_neg n2]
          exact ⟨by omega, a2⟩
      · unfold va_up
        by_cases q : k = s K
        · rw [if_pos q]; exact ⟨hjK, by rw [if_pos rfl, q]⟩
        · rw [if_neg q]
          obtain ⟨a1, a2⟩ := h2 k (by omega)
          have n1 : ¬ t k = K := fun z => q (by rw [← z, a2])
          have n2 : ¬ t k = t K := fun z => by rw [z, ej] at a2; omega
          rw [if_neg n2]
          exact ⟨by omega, a2⟩
theorem cnt_gt {b : Nat → Bool} {p K : Nat} (hp : p < K) : cnt (fun j => b (p + 1 + j)) (K - 1 - p) = sn (fun q => bi (decide (p < q) && b q)) K := by
  have h : ∀ m, sn (fun q => bi (decide (p < q) && b q)) (p + 1 + m) = cnt (fun j => b (p + 1 + j)) m := by
    intro m
    induction m with
    | zero =>
      rw [Nat.add_zero]
      refine (sn_congr (g := fun _ => 0) fun k hk => ?_).trans sn_0
      rw [decide_eq_false (show ¬ p < k by omega)]; rfl
    | succ m ih =>
      show sn _ (p + 1 + m) + bi (decide (p < p + 1 + m) && b (p + 1 + m)) = cnt _ m + _
      rw [ih, decide_eq_true (show p < p + 1 + m by omega), Bool.true_and]; rfl
  have := h (K - 1 - p)
  rw [show p + 1 + (K - 1 - p) = K by omega] at this
  exact this.symm
theorem prS_sn {b : Nat → Nat → Bool} {K : Nat} : prS b K K = sn (fun p => sn (fun q => bi (decide (p < q) && b p q)) K) K := by
  have : ∀ P, P ≤ K → prS b K P = sn (fun p => sn (fun q => bi (decide (p < q) && b p q)) K) P := by
    intro P
    induction P with
    | zero => intro _; rfl
    | succ P ih =>
      intro hP
      unfold prS sn
      rw [ih (by omega), cnt_gt (b := b P) (by omega)]
  exact this K (Nat.le_refl _)
/-- a symmetric relation's pairs are as many in each order -/
theorem prS_bij {B : Nat → Nat → Bool} {K : Nat} {s t : Nat → Nat} (h1 : ∀ k, k < K → s k < K ∧ t (s k) = k) (h2 : ∀ k, k < K → t k < K ∧ s (t k) = k) (hB : ∀ a b, B a b = B b a) : prS (fun p q => B (s p) (s q)) K K = prS B K K := by
  -- in any order with inverse u
  have key : ∀ u : Nat → Nat, (∀ a b, a < K → b < K → u a = u b → a = b) → sn (fun a => sn (fun b => bi (decide (u a < u b) && B a b)) K) K + sn (fun a => sn (fun b => bi (decide (u a < u b) && B a b)) K) K = sn (fun a => sn (fun b => bi (decide (¬ a = b) && B a b)) K) K := by
    intro u hu
    have sw : sn (fun a => sn (fun b => bi (decide (u a < u b) && B a b)) K) K = sn (fun a => sn (fun b => bi (decide (u b < u a) && B a b)) K) K := by
      rw [sn_comm]
      refine sn_congr fun a _ => sn_congr fun b _ => ?_
      rw [hB]
    have tw : ∀ x y : Nat, x = y → x + x = x + y := fun x y e => by omega
    rw [tw _ _ sw, ← sn_add]
    refine sn_congr fun a ha => ?_
    rw [← sn_add]
    refine sn_congr fun b hb => ?_
    by_cases e : a = b
    · subst e
      simp [bi]
    · rcases Nat.lt_trichotomy (u a) (u b) with z | z | z
      · simp [bi, e, z, Nat.lt_asymm z]
      · exact absurd (hu a b ha hb z) e
      · simp [bi, e, z, Nat.lt_asymm z]
  have l : prS (fun p q => B (s p) (s q)) K K = sn (fun a => sn (fun b => bi (decide (t a < t b) && B a b)) K) K := by
    rw [prS_sn]
    have e1 : ∀ p, p < K → sn (fun q => bi (decide (p < q) && B (s p) (s q))) K = sn (fun b => bi (decide (t (s p) < t b) && B (s p) b)) K := fun p hp => by
      rw [← sn_bij (f := fun b => bi (decide (t (s p) < t b) && B (s p) b)) K s t h1 h2]
      refine sn_congr fun q hq => ?_
      rw [(h1 p hp).2, (h1 q hq).2]
    rw [sn_congr e1]
    exact sn_bij (f := fun a => sn (fun b => bi (decide (t a < t b) && B a b)) K) K s t h1 h2
  have k1 := key t (fun a b ha hb e => by rw [← (h2 a ha).2, ← (h2 b hb).2, e])
  have k2 := key (fun k => k) (fun a b _ _ e => e)
  rw [l, prS_sn]
  omega

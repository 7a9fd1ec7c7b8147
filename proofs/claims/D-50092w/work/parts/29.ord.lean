/-! PLAIN LAW: who is better is a strict order of all classes; places are a permutation -/
/-- lexicographically greater, by the first place below N where two rows differ -/
def lxB (N : Nat) (f g : Nat → Int32) : Bool := match fst (fun p => decide (¬ f p = g p)) N with
  | some p => decide (g p < f p)
  | none => false
theorem lxB_iff {N : Nat} {f g : Nat → Int32} : lxB N f g = true ↔ ∃ p, p < N ∧ g p < f p ∧ ∀ q, q < p → f q = g q := by
  unfold lxB
  constructor
  · intro h
    cases e : fst (fun p => decide (¬ f p = g p)) N with
    | none => rw [e] at h; cases h
    | some p =>
      rw [e] at h
      obtain ⟨a, b, c⟩ := fst_spec e
      exact ⟨p, a, of_decide_eq_true h, fun q hq => by have := c q hq; simpa using this⟩
  · rintro ⟨p, a, b, c⟩
    cases e : fst (fun p => decide (¬ f p = g p)) N with
    | none =>
      have := fst_none e p a
      have h2 : f p = g p := by simpa using this
      rw [h2] at b
      exact absurd b (fun z => Int32.lt_irrefl (a := _) z)
    | some q =>
      obtain ⟨a', b', c'⟩ := fst_spec e
      have b2 : ¬ f q = g q := of_decide_eq_true b'
      have : q = p := by
        rcases Nat.lt_trichotomy q p with z | z | z
        · exact absurd (c q z) b2
        · exact z
        · have h3 := c' p z
          have h2 : f p = g p := by simpa using h3
          rw [h2] at b
          exact absurd b (fun z => Int32.lt_irrefl (a := _) z)
      subst this
      exact decide_eq_true b
theorem lxB_irr {N : Nat} {f : Nat → Int32} : lxB N f f = false := by
  cases h : lxB N f f with
  | false => rfl
  | true => obtain ⟨p, -, b, -⟩ := lxB_iff.mp h; exact absurd b (fun z => Int32.lt_irrefl (a := _) z)
theorem lxB_trans {N : Nat} {f g k : Nat → Int32} (h1 : lxB N f g = true) (h2 : lxB N g k = true) : lxB N f k = true := by
  obtain ⟨p, p1, p2, p3⟩ := lxB_iff.mp h1
  obtain ⟨q, q1, q2, q3⟩ := lxB_iff.mp h2
  apply lxB_iff.mpr
  rcases Nat.lt_trichotomy p q with z | z | z
  · exact ⟨p, p1, by rw [← q3 p z]; exact p2, fun x hx => (p3 x hx).trans (q3 x (by omega))⟩
  · subst z
    exact ⟨p, p1, Int32.lt_trans q2 p2, fun x hx => (p3 x hx).trans (q3 x hx)⟩
  · exact ⟨q, q1, by rw [p3 q z]; exact q2, fun x hx => (p3 x (by omega)).trans (q3 x hx)⟩
theorem lxB_tot {N : Nat} {f g : Nat → Int32} (h : ∃ p, p < N ∧ ¬ f p = g p) : lxB N f g = true ∨ lxB N g f = true := by
  obtain ⟨p, hp, hne⟩ := h
  cases e : fst (fun p => decide (¬ f p = g p)) N with
  | none => have := fst_none e p hp; exact absurd (by simpa using this) hne
  | some q =>
    obtain ⟨a, b, c⟩ := fst_spec e
    have b2 : ¬ f q = g q := of_decide_eq_true b
    have c2 : ∀ x, x < q → f x = g x := fun x hx => by have := c x hx; simpa using this
    rcases Int32.lt_or_le (f q) (g q) with z | z
    · exact Or.inr (lxB_iff.mpr ⟨q, a, z, fun x hx => (c2 x hx).symm⟩)
    · exact Or.inl (lxB_iff.mpr ⟨q, a, Int32.lt_of_le_of_ne z (fun w => b2 w.symm), c2⟩)
theorem lxB_asym {N : Nat} {f g : Nat → Int32} (h : lxB N f g = true) : lxB N g f = false := by
  cases e : lxB N g f with
  | false => rfl
  | true => have := lxB_trans h e; rw [lxB_irr] at this; cases this
/-! a strict order on the numbers below K, and the places that it gives -/
def SO (K : Nat) (b : Nat → Nat → Bool) : Prop := (∀ k, k < K → b k k = false) ∧ (∀ i j k, i < K → j < K → k < K → b i j = true → b j k = true → b i k = true) ∧ ∀ i j, i < K → j < K → ¬ i = j → b i j = true ∨ b j i = true
theorem SO.asym {K : Nat} {b : Nat → Nat → Bool} (h : SO K b) {i j : Nat} (hi : i < K) (hj : j < K) (hb : b i j = true) : b j i = false := by
  cases e : b j i with
  | false => rfl
  | true => have := h.2.1 i j i hi hj hi hb e; rw [h.1 i hi] at this; cases this
/-- how many of the first m come ahead of k -/
def rk (b : Nat → Nat → Bool) (k m : Nat) : Nat := cnt (fun l => decide (¬ l = k) && b l k) m
theorem cnt_mono {p q : Nat → Bool} {n : Nat} (h : ∀ k, k < n → p k = true → q k = true) : cnt p n ≤ cnt q n := by
  induction n with
  | zero => exact Nat.le_refl _
  | succ n ih =>
    have := ih (fun k hk => h k (by omega))
    unfold cnt
    by_cases e : p n = true
    · rw [if_pos e, if_pos (h n (by omega) e)]; omega
    · rw [if_neg e]; split <;> omega
theorem cnt_smono {p q : Nat → Bool} {n j : Nat} (h : ∀ k, k < n → p k = true → q k = true) (hj : j < n) (h1 : p j = false) (h2 : q j = true) : cnt p n < cnt q n := by
  induction n with
  | zero => omega
  | succ n ih =>
    unfold cnt
    by_cases e : j = n
    · subst e
      have := cnt_mono (p := p) (q := q) (n := j) (fun k hk => h k (by omega))
      rw [if_neg (by rw [h1]; decide), if_pos h2]; omega
    · have := ih (fun k hk => h k (by omega)) (by omega)
      by_cases e2 : p n = true
      · rw [if_pos e2, if_pos (h n (by omega) e2)]; omega
      · rw [if_neg e2]; split <;> omega
theorem rk_lt {K : Nat} {b : Nat → Nat → Bool} {k : Nat} (hk : k < K) : rk b k K < K := cnt_lt hk (by simp)
theorem rk_mono {K : Nat} {b : Nat → Nat → Bool} (h : SO K b) {i j : Nat} (hi : i < K) (hj : j < K) (hb : b i j = true) : rk b i K < rk b j K := by
  have hne : ¬ i = j := fun e => by subst e; rw [h.1 i hi] at hb; cases hb
  refine cnt_smono (j := i) (fun k hk hp => ?_) hi (by simp) (by simp [hne, hb])
  simp only [Bool.and_eq_true, decide_eq_true_eq] at hp ⊢
  refine ⟨fun e => ?_, h.2.1 k i j hk hi hj hp.2 hb⟩
  subst e
  have := h.asym hi hk hb
  rw [hp.2] at this; cases this
theorem rk_inj {K : Nat} {b : Nat → Nat → Bool} (h : SO K b) {i j : Nat} (hi : i < K) (hj : j < K) (e : rk b i K = rk b j K) : i = j := by
  apply Classical.byContradiction
  intro hne
  rcases h.2.2 i j hi hj hne with z | z
  · have := rk_mono h hi hj z; omega
  · have := rk_mono h hj hi z; omega
/-- an injection of the numbers below n into themselves takes each -/
theorem inj_surj : ∀ (n : Nat) (f : Nat → Nat), (∀ i, i < n → f i < n) → (∀ i j, i < n → j < n → f i = f j → i = j) → ∀ p, p < n → ∃ k, k < n ∧ f k = p := by
  intro n
  induction n with
  | zero => intro f _ _ p hp; omega
  | succ n ih =>
    intro f h1 h2 p hp
    -- swap the last value away
    have hq := h1 n (by omega)
    have h3 : ∀ i, i < n → (if f i = n then f n else f i) < n := by
      intro i hi
      have a := h1 i (by omega)
      have b : ¬ f i = f n := fun e => by have := h2 i n (by omega) (by omega) e; omega
      split
      · omega
      · omega
    have h4 : ∀ i j, i < n → j < n → (if f i = n then f n else f i) = (if f j = n then f n else f j) → i = j := by
      intro i j hi hj e
      have bi : ¬ f i = f n := fun e => by have := h2 i n (by omega) (by omega) e; omega
      have bj : ¬ f j = f n := fun e => by have := h2 j n (by omega) (by omega) e; omega
      apply h2 i j (by omega) (by omega)
      split at e <;> split at e <;> omega
    have ih' := ih (fun i => if f i = n then f n else f i) h3 h4
    by_cases hpn : p = f n
    · exact ⟨n, by omega, hpn.symm⟩
    · by_cases hp' : p < n
      · obtain ⟨k, hk, e⟩ := ih' p hp'
        split at e
        · exact absurd e.symm hpn
        · exact ⟨k, by omega, e⟩
      · have hpe : p = n := by omega
        have hfn : f n < n := by omega
        obtain ⟨k, hk, e⟩ := ih' (f n) hfn
        split at e
        · rename_i z
          exact ⟨k, by omega, by omega⟩
        · have := h2 k n (by omega) (by omega) e
          omega
theorem rk_surj {K : Nat} {b : Nat → Nat → Bool} (h : SO K b) {p : Nat} (hp : p < K) : ∃ k, k < K ∧ rk b k K = p := inj_surj K (fun k => rk b k K) (fun i hi => rk_lt hi) (fun i j hi hj e => rk_inj h hi hj e) p hp
/-! the twin's order -/
def key (c w r : Rw) (K A : Nat) (t : Int32) (k : Nat) : Nat → Int32 :=
  if t = 1 then (fun p => if p < K then fis c w r A k p else nI (K - k))
  else if t = 2 then (fun p => if p = 0 then nI (wns c w r K A k) else if p = 1 then pts c w r K A k else nI (K - k))
  else (fun p => if p = 0 then pts c w r K A k else nI (K - k))
theorem fst_cons {p : Nat → Bool} {n : Nat} : fst p (n + 1) = (match fst p n with | some j => some j | none => if p n = true then some n else none) := by
  have : ∀ m i, fnd p (m + 1) i = (match fnd p m i with | some j => some j | none => if p (i + m) = true then some (i + m) else none) := by
    intro m
    induction m with
    | zero => intro i; unfold fnd fnd; simp
    | succ m ih =>
      intro i
      have e1 : fnd p (m + 1 + 1) i = (if p i = true then some i else fnd p (m + 1) (i + 1)) := rfl
      have e2 : fnd p (m + 1) i = (if p i = true then some i else fnd p m (i + 1)) := rfl
      rw [e1, e2]
      by_cases h : p i = true
      · rw [if_pos h, if_pos h]
      · rw [if_neg h, if_neg h, ih (i + 1), show i + 1 + m = i + (m + 1) by omega]
  unfold fst
  rw [this n 0, Nat.zero_add]
theorem fst_congr {p q : Nat → Bool} {n : Nat} (h : ∀ k, k < n → p k = q k) : fst p n = fst q n := by
  have : ∀ m i, (∀ k, i ≤ k → k < i + m → p k = q k) → fnd p m i = fnd q m i := by
    intro m
    induction m with
    | zero => intro i _; rfl
    | succ m ih =>
      intro i hh
      unfold fnd
      rw [hh i (Nat.le_refl _) (by omega), ih (i + 1) (fun k a b => hh k (by omega) (by omega))]
  exact this n 0 (fun k _ b => h k (by omega))

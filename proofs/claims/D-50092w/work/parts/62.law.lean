/-! PLAIN LAW: the first of a line is the twin's -/
theorem nI_neg_lt {a b : Nat} (ha : a < 2 ^ 30) (hb : b < 2 ^ 30) : (- nI a < - nI b) ↔ b < a := by
  rw [Int32.lt_iff_toInt_lt, Int32.toInt_neg, Int32.toInt_neg, nI_toInt (by omega), nI_toInt (by omega)]
  have e1 : (-(a : Int)).bmod (2 ^ 32) = -(a : Int) := Int.bmod_eq_of_le (by omega) (by omega)
  have e2 : (-(b : Int)).bmod (2 ^ 32) = -(b : Int) := Int.bmod_eq_of_le (by omega) (by omega)
  rw [e1, e2]; omega
theorem nI_neg_eq {a b : Nat} (ha : a < 2 ^ 30) (hb : b < 2 ^ 30) : (- nI a = - nI b) ↔ a = b := by
  rw [Int32.neg_inj, nI_eq (by omega) (by omega)]
/-- which rows' requests wait -/
def IX (r : Rw) (n m : Nat) (ix : Nat → Nat) : Prop := (∀ k, k < m → ix k < n) ∧ (∀ j k, j < k → k < m → ix j < ix k) ∧ ∀ i, i < n → (wtB r i = true ↔ ∃ k, k < m ∧ ix k = i)
theorem RI.ser {r : Rw} {K A n : Nat} (h : RI r K A n) : ∃ s : Nat → Nat, (∀ i, i < n → r (118 + 6 * i) = nI (s i) ∧ s i < 9999) ∧ ∀ i j, i < j → j < n → s i < s j := by
  obtain ⟨-, -, -, -, -, ⟨-, -, -, -, b, e, s, h1, h2, h3, h4, h5, h6⟩, -⟩ := h
  exact ⟨s, fun i hi => ⟨(h5 i hi).1, by have := (h5 i hi).2; omega⟩, h6⟩
theorem RI.serI {r : Rw} {K A n : Nat} (h : RI r K A n) {i j : Nat} (hi : i < n) (hj : j < n) (e : r (118 + 6 * i) = r (118 + 6 * j)) : i = j := by
  obtain ⟨s, h1, h2⟩ := h.ser
  rw [(h1 i hi).1, (h1 j hj).1] at e
  have := (nI_eq (by have := (h1 i hi).2; omega) (by have := (h1 j hj).2; omega)).mp e
  rcases Nat.lt_trichotomy i j with z | z | z
  · have := h2 i j z hj; omega
  · exact z
  · have := h2 j i z hi; omega
theorem RI.serL {r : Rw} {K A n : Nat} (h : RI r K A n) {i j : Nat} (hi : i < n) (hj : j < n) : r (118 + 6 * i) < r (118 + 6 * j) ↔ i < j := by
  obtain ⟨s, h1, h2⟩ := h.ser
  rw [(h1 i hi).1, (h1 j hj).1, nI_ltI (by have := (h1 i hi).2; omega) (by have := (h1 j hj).2; omega)]
  rcases Nat.lt_trichotomy i j with z | z | z
  · have := h2 i j z hj; omega
  · subst z; omega
  · have := h2 j i z hi; omega
theorem RI.ser1 {r : Rw} {K A n : Nat} (h : RI r K A n) {i : Nat} (hi : i < n) : ¬ r (118 + 6 * i) = -1 := by
  obtain ⟨s, h1, h2⟩ := h.ser
  rw [(h1 i hi).1]
  intro z
  have := congrArg Int32.toInt z
  rw [nI_toInt (by have := (h1 i hi).2; omega)] at this
  have h2 : (-1 : Int32).toInt = -1 := by decide
  omega
theorem IX_id {r : Rw} {K A n : Nat} (h : RI r K A n) (h8 : r 8 = -1) : IX r n n (fun k => k) :=
  ⟨fun k hk => hk, fun j k hj hk => hj, fun i hi => ⟨fun _ => ⟨i, hi, rfl⟩, fun _ => by
    unfold wtB; rw [h8]; exact decide_eq_true (h.ser1 hi)⟩⟩
theorem IX_skp {r : Rw} {K A n m i : Nat} (h : RI r K A n) (hn : n = m + 1) (hi : i < n) (h8 : r (118 + 6 * i) = r 8) : IX r n m (skp i) := by
  refine ⟨fun k hk => ?_, fun j k hj hk => ?_, fun j hj => ⟨fun hw => ?_, fun ⟨k, hk, e⟩ => ?_⟩⟩
  · unfold skp; split <;> omega
  · unfold skp; split <;> split <;> omega
  · have hne : ¬ j = i := fun z => by subst z; unfold wtB at hw; exact of_decide_eq_true hw h8
    by_cases q : j < i
    · exact ⟨j, by omega, if_pos q⟩
    · exact ⟨j - 1, by omega, by unfold skp; rw [if_neg (by omega)]; omega⟩
  · unfold wtB
    refine decide_eq_true fun z => ?_
    rw [← h8] at z
    have := h.serI hj hi z
    subst e
    unfold skp at this
    split at this <;> omega
theorem RI.cre {r : Rw} {K A n a : Nat} (h : RI r K A n) (ha : a < A) : (∃ x, x < 1000 ∧ r (20 + a) = nI x) ∧ ∃ x, x < 100 ∧ r (28 + a) = nI x := by
  have := h.2.2.2.2.1 a ha
  exact ⟨vp_in_of this.1 (by omega), vp_in_of this.2.1 (by omega)⟩
/-- who is ahead -/
theorem ah_vl {r : Rw} {K A n i j k : Nat} (h : RI r K A n) (hK : K ≤ 5) (hA : A ≤ 8) (hi : i < n) (hj : j < n) (hk : k < K) (ki : r (118 + 6 * i + 2) = nI k) (kj : r (118 + 6 * j + 2) = nI k) :
    ahB r j i = true ↔ vlF r (r (15 + k)) j < vlF r (r (15 + k)) i ∨ (vlF r (r (15 + k)) j = vlF r (r (15 + k)) i ∧ j < i) := by
  have hck : cl (nI k) = k := nI_clamp (by omega)
  obtain ⟨t, ht, et⟩ := vp_in_of (h.2.2.2.1 k hk) (by omega)
  obtain ⟨ai, hai, eai⟩ := vp_in_of (h.2.2.2.2.2.1.2.2.1 i hi).1 (by omega)
  obtain ⟨aj, haj, eaj⟩ := vp_in_of (h.2.2.2.2.2.1.2.2.1 j hj).1 (by omega)
  obtain ⟨li, l1, l2, eli⟩ := (h.2.2.2.2.2.1.2.2.1 i hi).2.2
  obtain ⟨lj, l3, l4, elj⟩ := (h.2.2.2.2.2.1.2.2.1 j hj).2.2
  have cai : cl (nI ai) = ai := nI_clamp (by omega)
  have caj : cl (nI aj) = aj := nI_clamp (by omega)
  obtain ⟨⟨x1, y1, e1⟩, x2, y2, e2⟩ := h.cre hai
  obtain ⟨⟨x3, y3, e3⟩, x4, y4, e4⟩ := h.cre haj
  have hs := h.serL hj hi
  have hsn : ∀ p q : Nat, p < 2 ^ 30 → q < 2 ^ 30 → (nI p < nI q ↔ p < q) := fun p q hp hq => nI_ltI (by omega) (by omega)
  have hse : ∀ p q : Nat, p < 2 ^ 30 → q < 2 ^ 30 → (nI p = nI q ↔ p = q) := fun p q hp hq => nI_eq (by omega) (by omega)
  unfold ahB clm vlF
  rw [ki, kj, hck, et, eai, eaj, cai, caj, eli, elj, e1, e2, e3, e4]
  have t1 : (nI 0 = 1) = False := by simp; decide
  rcases (by omega : t = 0 ∨ t = 1 ∨ t = 2 ∨ t = 3) with e | e | e | e <;> subst e
  · have q1 : ¬ nI 0 = 1 := by decide
    have q2 : ¬ nI 0 = 2 := by decide
    have q3 : ¬ nI 0 = 3 := by decide
    simp only [q1, q2, q3, if_false, if_true, decide_eq_true_iff]
    rw [hs]
    constructor
    · intro z; exact Or.inl z
    · rintro (z | ⟨z, z2⟩)
      · exact z
      · exact z2
  · have q1 : nI 1 = 1 := by decide
    simp only [q1, if_true]
    have a1 := nI_neg_lt (a := li) (b := lj) (by omega) (by omega)
    have a2 := nI_neg_eq (a := lj) (b := li) (by omega) (by omega)
    have a3 := hsn lj li (by omega) (by omega)
    have a4 := hse lj li (by omega) (by omega)
    by_cases z : lj = li
    · subst z; simp [hs]
    · simp [a1, a2, a3, a4, z]
  · have q1 : ¬ nI 2 = 1 := by decide
    have q2 : nI 2 = 2 := by decide
    simp only [q1, q2, if_true, if_false]
    have a1 := nI_neg_lt (a := x3) (b := x1) (by omega) (by omega)
    have a2 := nI_neg_eq (a := x3) (b := x1) (by omega) (by omega)
    have a3 := hsn x1 x3 (by omega) (by omega)
    have a4 := hse x3 x1 (by omega) (by omega)
    by_cases z : x3 = x1
    · subst z; simp [hs]
    · simp [a1, a2, a3, a4, z]
  · have q1 : ¬ nI 3 = 1 := by decide
    have q2 : ¬ nI 3 = 2 := by decide
    have q3 : nI 3 = 3 := by decide
    simp only [q1, q2, q3, if_true, if_false]
    have a1 := nI_neg_lt (a := x4) (b := x2) (by omega) (by omega)
    have a2 := nI_neg_eq (a := x4) (b := x2) (by omega) (by omega)
    have a3 := hsn x2 x4 (by omega) (by omega)
    have a4 := hse x4 x2 (by omega) (by omega)
    by_cases z : x4 = x2
    · subst z; simp [hs]
    · simp [a1, a2, a3, a4, z]
theorem ft_min {r : Rw} {ix : Nat → Nat} {kd : Int32} : ∀ m, match ftF r ix kd m with
    | none => ∀ k, k < m → ¬ r (118 + 6 * ix k + 2) = kd
    | some j => j < m ∧ r (118 + 6 * ix j + 2) = kd ∧ ∀ k, k < m → r (118 + 6 * ix k + 2) = kd → ¬ k = j → vlF r (r (15 + cl kd)) (ix j) < vlF r (r (15 + cl kd)) (ix k) ∨ (vlF r (r (15 + cl kd)) (ix j) = vlF r (r (15 + cl kd)) (ix k) ∧ j < k) := by
  intro m
  induction m with
  | zero => intro k hk; omega
  | succ m ih =>
    obtain ⟨V, hV⟩ : ∃ V, V = vlF r (r (15 + cl kd)) := ⟨_, rfl⟩
    unfold ftF
    rw [← hV] at ih ⊢
    cases hf : ftF r ix kd m with
    | none =>
      rw [hf] at ih
      dsimp only at ih
      by_cases q : r (118 + 6 * ix m + 2) = kd
      · rw [if_pos ⟨q, rfl⟩]
        refine ⟨by omega, q, fun k hk hkk hne => ?_⟩
        exact absurd hkk (ih k (by omega))
      · rw [if_neg (fun z => q z.1)]
        intro k hk
        by_cases e : k = m
        · subst e; exact q
        · exact ih k (by omega)
    | some j =>
      rw [hf] at ih
      dsimp only at ih
      obtain ⟨i1, i2, i3⟩ := ih
      by_cases q : r (118 + 6 * ix m + 2) = kd ∧ ftB r (r (15 + cl kd)) ix m (some j) = true
      · rw [if_pos q]
        have q2 : V (ix m) < V (ix j) := by have := q.2; unfold ftB at this; rw [hV]; exact of_decide_eq_true this
        refine ⟨by omega, q.1, fun k hk hkk hne => ?_⟩
        left
        by_cases e : k = j
        · subst e; exact q2
        · rcases i3 k (by omega) hkk e with z | ⟨z, _⟩
          · exact Int32.lt_trans q2 z
          · rw [← z]; exact q2
      · rw [if_neg q]
        refine ⟨by omega, i2, fun k hk hkk hne => ?_⟩
        by_cases e : k = m
        · subst e
          have q2 : ¬ V (ix k) < V (ix j) := fun z => q ⟨hkk, by unfold ftB; rw [hV] at z; exact decide_eq_true z⟩
          by_cases e2 : V (ix j) = V (ix k)
          · exact Or.inr ⟨e2, i1⟩
          · exact Or.inl (Int32.lt_of_le_of_ne (Int32.not_lt.mp q2) e2)
        · exact i3 k (by omega) hkk hne
theorem cnt_zero {p : Nat → Bool} {n : Nat} : cnt p n = 0 ↔ ∀ k, k < n → p k = false := by
  constructor
  · intro h k hk
    by_cases z : p k = true
    · have : 0 < cnt p n := cnt_pos.mpr (by
        cases e : fst p n with
        | some j => rfl
        | none => have := fst_none e k hk; rw [this] at z; cases z)
      omega
    · simpa using z
  · intro h
    induction n with
    | zero => rfl
    | succ n ih => unfold cnt; rw [ih (fun k hk => h k (by omega)), h n (by omega)]; rfl
theorem ft_twin {r : Rw} {K A n m k : Nat} {ix : Nat → Nat} (h : RI r K A n) (hK : K ≤ 5) (hA : A ≤ 8) (hk : k < K) (hX : IX r n m ix) : fst (lnB r n (nI k) 0) n = (ftF r ix (nI k) m).map ix := by
  have hck : cl (nI k) = k := nI_clamp (by omega)
  have hm := ft_min (r := r) (ix := ix) (kd := nI k) m
  rw [hck] at hm
  obtain ⟨x1, x2, x3⟩ := hX
  have hln : ∀ i, i < n → (lnB r n (nI k) 0 i = true ↔ ∃ j, j < m ∧ ix j = i ∧ r (118 + 6 * i + 2) = nI k ∧ ∀ l, l < m → r (118 + 6 * ix l + 2) = nI k → ¬ l = j → ¬ ahB r (ix l) i = true) := by
    intro i hi
    unfold lnB ilB
    rw [Bool.and_eq_true, Bool.and_eq_true, decide_eq_true_iff, decide_eq_true_iff, cnt_zero]
    constructor
    · rintro ⟨⟨a1, a2⟩, a3⟩
      obtain ⟨j, hj, ej⟩ := (x3 i hi).mp a2
      refine ⟨j, hj, ej, a1, fun l hl el hne ha => ?_⟩
      have := a3 (ix l) (x1 l hl)
      unfold afB ilB at this
      rw [a1, el, ha, (x3 _ (x1 l hl)).mpr ⟨l, hl, rfl⟩] at this
      simp at this
    · rintro ⟨j, hj, ej, a1, a3⟩
      refine ⟨⟨a1, (x3 i hi).mpr ⟨j, hj, ej⟩⟩, fun l hl => ?_⟩
      unfold afB ilB
      rw [a1]
      by_cases q : r (118 + 6 * l + 2) = nI k
      · by_cases w : wtB r l = true
        · obtain ⟨l', hl', el'⟩ := (x3 l hl).mp w
          by_cases e : l' = j
          · have : l = i := by rw [← el', e, ej]
            subst this
            have : ahB r l l = false := by
              by_cases z : ahB r l l = true
              · rcases (ah_vl h hK hA hl hl hk q q).mp z with y | ⟨_, y⟩
                · exact absurd y Int32.lt_irrefl
                · omega
              · simpa using z
            rw [this]; simp
          · have := a3 l' hl' (by rw [el']; exact q) e
            rw [el'] at this
            simp [this]
        · simp [w]
      · simp [q]
  cases hf : ftF r ix (nI k) m with
  | none =>
    rw [hf] at hm
    dsimp only at hm
    cases e : fst (lnB r n (nI k) 0) n with
    | none => rfl
    | some i =>
      obtain ⟨a, b, _⟩ := fst_spec e
      obtain ⟨j, hj, ej, ek, _⟩ := (hln i a).mp b
      exact absurd (by rw [ej]; exact ek) (hm j hj)
  | some j =>
    rw [hf] at hm
    dsimp only at hm
    obtain ⟨m1, m2, m3⟩ := hm
    have hj : lnB r n (nI k) 0 (ix j) = true := (hln _ (x1 j m1)).mpr ⟨j, m1, rfl, m2, fun l hl el hne ha => by
      rcases (ah_vl h hK hA (x1 j m1) (x1 l hl) hk m2 el).mp ha with y | ⟨y, y2⟩ <;> rcases m3 l hl el hne with z | ⟨z, z2⟩
      · exact absurd (Int32.lt_trans y z) Int32.lt_irrefl
      · rw [z] at y; exact absurd y Int32.lt_irrefl
      · rw [y] at z; exact absurd z Int32.lt_irrefl
      · have := x2 j l z2 hl; omega⟩
    cases e : fst (lnB r n (nI k) 0) n with
    | none => have := fst_none e _ (x1 j m1); rw [this] at hj; cases hj
    | some i =>
      obtain ⟨a, b, _⟩ := fst_spec e
      obtain ⟨l, hl, el, ek, hno⟩ := (hln i a).mp b
      by_cases q : l = j
      · subst q; exact congrArg some el.symm
      · exfalso
        have ekl : r (118 + 6 * ix l + 2) = nI k := by rw [el]; exact ek
        refine hno j m1 m2 (fun z => q z.symm) ((ah_vl h hK hA a (x1 j m1) hk ek m2).mpr ?_)
        rw [← el]
        rcases m3 l hl ekl q with z | ⟨z, z2⟩
        · exact Or.inl z
        · exact Or.inr ⟨z, x2 j l z2 hl⟩

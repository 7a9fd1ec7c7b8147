/-! THE PURE MACHINE: a run of bytecode over a plain heap; every table is a parameter -/
/-- tag, length, ints, longs, references; next address, slots made; base (what lies below is never written), addresses of constants -/
abbrev Hp : Type := (Nat → Nat) × (Nat → Nat) × (Nat → Nat → Int32) × (Nat → Nat → Int64) × (Nat → Nat → Option Nat) × Nat × Nat × Nat × (Nat → Nat)
def gT (G : Hp) (a : Nat) : Nat := G.1 a
def gN (G : Hp) (a : Nat) : Nat := G.2.1 a
def gI (G : Hp) (a k : Nat) : Int32 := G.2.2.1 a k
def gJ (G : Hp) (a k : Nat) : Int64 := G.2.2.2.1 a k
def gR (G : Hp) (a k : Nat) : Option Nat := G.2.2.2.2.1 a k
def gX (G : Hp) : Nat := G.2.2.2.2.2.1
def gS (G : Hp) : Nat := G.2.2.2.2.2.2.1
def gB (G : Hp) : Nat := G.2.2.2.2.2.2.2.1
def gA (G : Hp) (i : Nat) : Nat := G.2.2.2.2.2.2.2.2 i
def up2 {α : Type} (f : Nat → Nat → α) (a k : Nat) (x : α) : Nat → Nat → α := fun b j => if b = a ∧ j = k then x else f b j
def upr {α : Type} (f : Nat → Nat → α) (a : Nat) (x : Nat → α) : Nat → Nat → α := fun b => if b = a then x else f b
def sI (G : Hp) (a k : Nat) (x : Int32) : Hp := (G.1, G.2.1, up2 G.2.2.1 a k x, G.2.2.2)
def sJ (G : Hp) (a k : Nat) (x : Int64) : Hp := (G.1, G.2.1, G.2.2.1, up2 G.2.2.2.1 a k x, G.2.2.2.2)
def sR (G : Hp) (a k : Nat) (x : Option Nat) : Hp := (G.1, G.2.1, G.2.2.1, G.2.2.2.1, up2 G.2.2.2.2.1 a k x, G.2.2.2.2.2)
/-- all ints (references) of a cell at once -/
def sIr (G : Hp) (a : Nat) (f : Nat → Int32) : Hp := (G.1, G.2.1, upr G.2.2.1 a f, G.2.2.2)
def sRr (G : Hp) (a : Nat) (f : Nat → Option Nat) : Hp := (G.1, G.2.1, G.2.2.1, G.2.2.2.1, upr G.2.2.2.2.1 a f, G.2.2.2.2.2)
/-- a new cell: tag t, n slots; its length stands for arrays alone -/
def nw (G : Hp) (t n : Nat) : Hp := (va_up G.1 (gX G) t, va_up G.2.1 (gX G) n, upr G.2.2.1 (gX G) (fun _ => 0), upr G.2.2.2.1 (gX G) (fun _ => 0), upr G.2.2.2.2.1 (gX G) (fun _ => none), gX G + 1, gS G + n, G.2.2.2.2.2.2.2)
abbrev UV : Value := .retAddr 0
/-- jump; call; return; throw -/
abbrev Cmd : Type := Option ((Nat × List Value × List Value × Hp) ⊕ (Nat × List Value × Nat × List Value) ⊕ (Option Value) ⊕ (Nat × Hp))
abbrev cJ (pc : Nat) (ls st : List Value) (G : Hp) : Cmd := some (.inl (pc, ls, st, G))
abbrev cC (y : Nat) (as : List Value) (pc : Nat) (st : List Value) : Cmd := some (.inr (.inl (y, as, pc, st)))
abbrev cR (v : Option Value) : Cmd := some (.inr (.inr (.inl v)))
abbrev cX (a : Nat) (G : Hp) : Cmd := some (.inr (.inr (.inr (a, G))))
abbrev PI : Type := List Value → List Value → Hp → Cmd
abbrev Out : Type := Option Value ⊕ Nat
/-- a method's first locals: its arguments, a long's second half behind it, the rest unset -/
def en1 (v : Value) (r : List Value) : List Value := match v with
  | .long _ => v :: UV :: r
  | .double _ => v :: UV :: r
  | _ => v :: r
def entp (n : Nat) (l : List Value) : List Value := l ++ List.replicate (n - l.length) UV
def ent (n : Nat) (as : List Value) : List Value := entp n (as.foldr en1 [])
/-- program: a method's locals, an instruction, the handler at a pc for a thrown object's tag -/
abbrev Prog : Type := (Nat → Nat) × (Nat → Nat → PI) × (Nat → Nat → Nat → Option Nat)
def run (P : Prog) : Nat → Nat → Nat → Nat → List Value → List Value → Hp → Option (Out × Hp)
  | 0, _, _, _, _, _, _ => none
  | k + 1, d, y, pc, ls, st, G =>
    match P.2.1 y pc ls st G with
    | none => none
    | some (.inl (pc', ls', st', G')) => run P k d y pc' ls' st' G'
    | some (.inr (.inl (y', as, pc', st'))) =>
      match d with
      | 0 => none
      | d' + 1 =>
        if (as.foldr en1 []).length ≤ P.1 y' then
          match run P k d' y' 0 (ent (P.1 y') as) [] G with
          | none => none
          | some (.inl v, G') => run P k (d' + 1) y pc' ls (v.toList ++ st') G'
          | some (.inr a, G') =>
            match P.2.2 y pc (gT G' a) with
            | some h => run P k (d' + 1) y h ls [.ref a] G'
            | none => some (.inr a, G')
        else none
    | some (.inr (.inr (.inl v))) => some (.inl v, G)
    | some (.inr (.inr (.inr (a, G')))) =>
      match P.2.2 y pc (gT G' a) with
      | some h => run P k d y h ls [.ref a] G'
      | none => some (.inr a, G')
theorem run_mono {P : Prog} : ∀ (k d y pc : Nat) (ls st : List Value) (G : Hp) (r : Out × Hp), run P k d y pc ls st G = some r → run P (k + 1) d y pc ls st G = some r := by
  intro k
  induction k with
  | zero => intro d y pc ls st G r h; cases h
  | succ k ih =>
    intro d y pc ls st G r h
    rw [run] at h ⊢
    cases hc : P.2.1 y pc ls st G with
    | none => rw [hc] at h; cases h
    | some c =>
      rw [hc] at h
      rcases c with ⟨pc', ls', st', G'⟩ | ⟨y', as, pc', st'⟩ | v | ⟨a, G'⟩
      · exact ih _ _ _ _ _ _ _ h
      · cases d with
        | zero => cases h
        | succ d =>
          dsimp only at h ⊢
          by_cases hle : (as.foldr en1 []).length ≤ P.1 y'
          case neg => rw [if_neg hle] at h; cases h
          rw [if_pos hle] at h ⊢
          cases hr : run P k d y' 0 (ent (P.1 y') as) [] G with
          | none => rw [hr] at h; cases h
          | some q =>
            rw [hr] at h
            rw [ih _ _ _ _ _ _ _ hr]
            obtain ⟨o, G'⟩ := q
            cases o with
            | inl v => exact ih _ _ _ _ _ _ _ h
            | inr a =>
              dsimp only at h ⊢
              cases hh : P.2.2 y pc (gT G' a) with
              | none => rw [hh] at h; exact h
              | some z => rw [hh] at h; exact ih _ _ _ _ _ _ _ h
      · exact h
      · dsimp only at h ⊢
        cases hh : P.2.2 y pc (gT G' a) with
        | none => rw [hh] at h; exact h
        | some z => rw [hh] at h; exact ih _ _ _ _ _ _ _ h
theorem run_le {P : Prog} {k k' d y pc : Nat} {ls st : List Value} {G : Hp} {r : Out × Hp} (hk : k ≤ k') (h : run P k d y pc ls st G = some r) : run P k' d y pc ls st G = some r := by
  induction hk with
  | refl => exact h
  | step _ ih => exact run_mono _ _ _ _ _ _ _ _ ih
theorem run_det {P : Prog} {k k' d y pc : Nat} {ls st : List Value} {G : Hp} {r r' : Out × Hp} (h : run P k d y pc ls st G = some r) (h' : run P k' d y pc ls st G = some r') : r = r' := by
  have h1 := run_le (Nat.le_max_left k k') h
  have h2 := run_le (Nat.le_max_right k k') h'
  exact Option.some.inj (h1.symm.trans h2)
/-- the run's end, whatever fuel it takes -/
noncomputable def XP (P : Prog) (d y pc : Nat) (ls st : List Value) (G : Hp) : Option (Out × Hp) :=
  @dite (Option (Out × Hp)) (∃ r, ∃ k, run P k d y pc ls st G = some r) (Classical.propDecidable _) (fun h => some (Classical.choose h)) (fun _ => none)
theorem XP_some {P : Prog} {d y pc : Nat} {ls st : List Value} {G : Hp} {r : Out × Hp} : XP P d y pc ls st G = some r ↔ ∃ k, run P k d y pc ls st G = some r := by
  constructor
  · intro h
    by_cases hx : ∃ r, ∃ k, run P k d y pc ls st G = some r
    · unfold XP at h
      rw [dif_pos hx] at h
      cases h
      exact Classical.choose_spec hx
    · unfold XP at h
      rw [dif_neg hx] at h
      cases h
  · intro h
    have hx : ∃ r, ∃ k, run P k d y pc ls st G = some r := ⟨r, h⟩
    unfold XP
    rw [dif_pos hx]
    obtain ⟨k, hk⟩ := Classical.choose_spec hx
    obtain ⟨k', hk'⟩ := h
    exact congrArg some (run_det hk hk')
/-- what follows a call, by its end -/
noncomputable def RP (P : Prog) (d y pc pc' : Nat) (ls st : List Value) (q : Option (Out × Hp)) : Option (Out × Hp) :=
  match q with
  | none => none
  | some (.inl v, G') => XP P d y pc' ls (v.toList ++ st) G'
  | some (.inr a, G') => match P.2.2 y pc (gT G' a) with
    | some h => XP P d y h ls [.ref a] G'
    | none => some (.inr a, G')
theorem XP_ext {a b : Option (Out × Hp)} (h : ∀ r, a = some r ↔ b = some r) : a = b := by
  cases a with
  | none =>
    cases b with
    | none => rfl
    | some y => exact ((h y).mpr rfl)
  | some x => exact ((h x).mp rfl).symm
section XPL
variable {P : Prog} {d y pc : Nat} {ls st : List Value} {G : Hp}
theorem XP_J {pc' : Nat} {ls' st' : List Value} {G' : Hp} (h : P.2.1 y pc ls st G = cJ pc' ls' st' G') : XP P d y pc ls st G = XP P d y pc' ls' st' G' := by
  apply XP_ext
  intro r
  rw [XP_some, XP_some]
  constructor
  · rintro ⟨k, hk⟩
    cases k with
    | zero => cases hk
    | succ k => rw [run, h] at hk; exact ⟨k, hk⟩
  · rintro ⟨k, hk⟩
    exact ⟨k + 1, by rw [run, h]; exact hk⟩
theorem XP_R {v : Option Value} (h : P.2.1 y pc ls st G = cR v) : XP P d y pc ls st G = some (.inl v, G) := by
  rw [XP_some]
  exact ⟨1, by rw [run, h]⟩
theorem XP_T {a : Nat} {G' : Hp} (h : P.2.1 y pc ls st G = cX a G') : XP P d y pc ls st G = RP P d y pc 0 ls [] (some (.inr a, G')) := by
  apply XP_ext
  intro r
  unfold RP
  dsimp only
  rw [XP_some]
  cases hh : P.2.2 y pc (gT G' a) with
  | none =>
    constructor
    · rintro ⟨k, hk⟩
      cases k with
      | zero => cases hk
      | succ k => rw [run, h] at hk; dsimp only at hk; rw [hh] at hk; exact hk
    · intro hk
      exact ⟨1, by rw [run, h]; dsimp only; rw [hh]; exact hk⟩
  | some z =>
    rw [XP_some]
    constructor
    · rintro ⟨k, hk⟩
      cases k with
      | zero => cases hk
      | succ k => rw [run, h] at hk; dsimp only at hk; rw [hh] at hk; exact ⟨k, hk⟩
    · rintro ⟨k, hk⟩
      exact ⟨k + 1, by rw [run, h]; dsimp only; rw [hh]; exact hk⟩
theorem XP_C {y' pc' : Nat} {as st' : List Value} (h : P.2.1 y pc ls st G = cC y' as pc' st') (hle : (as.foldr en1 []).length ≤ P.1 y') : XP P (d + 1) y pc ls st G = RP P (d + 1) y pc pc' ls st' (XP P d y' 0 (ent (P.1 y') as) [] G) := by
  apply XP_ext
  intro r
  rw [XP_some]
  constructor
  · rintro ⟨k, hk⟩
    cases k with
    | zero => cases hk
    | succ k =>
      rw [run, h] at hk
      dsimp only at hk
      rw [if_pos hle] at hk
      cases hr : run P k d y' 0 (ent (P.1 y') as) [] G with
      | none => rw [hr] at hk; cases hk
      | some q =>
        rw [hr] at hk
        rw [XP_some.mpr ⟨k, hr⟩]
        obtain ⟨o, G'⟩ := q
        unfold RP
        cases o with
        | inl v => dsimp only at hk ⊢; rw [XP_some]; exact ⟨k, hk⟩
        | inr a =>
          dsimp only at hk ⊢
          cases hh : P.2.2 y pc (gT G' a) with
          | none => rw [hh] at hk; exact hk
          | some z => rw [hh] at hk; dsimp only at hk ⊢; rw [XP_some]; exact ⟨k, hk⟩
  · intro hk
    cases hq : XP P d y' 0 (ent (P.1 y') as) [] G with
    | none => rw [hq] at hk; cases hk
    | some q =>
      rw [hq] at hk
      obtain ⟨k1, hk1⟩ := XP_some.mp hq
      obtain ⟨o, G'⟩ := q
      unfold RP at hk
      cases o with
      | inl v =>
        dsimp only at hk
        obtain ⟨k2, hk2⟩ := XP_some.mp hk
        refine ⟨max k1 k2 + 1, ?_⟩
        rw [run, h]
        dsimp only
        rw [if_pos hle, run_le (Nat.le_max_left k1 k2) hk1]
        exact run_le (Nat.le_max_right k1 k2) hk2
      | inr a =>
        dsimp only at hk
        cases hh : P.2.2 y pc (gT G' a) with
        | none =>
          rw [hh] at hk
          refine ⟨k1 + 1, ?_⟩
          rw [run, h]
          dsimp only
          rw [if_pos hle, hk1]
          dsimp only
          rw [hh]
          exact hk
        | some z =>
          rw [hh] at hk
          dsimp only at hk
          obtain ⟨k2, hk2⟩ := XP_some.mp hk
          refine ⟨max k1 k2 + 1, ?_⟩
          rw [run, h]
          dsimp only
          rw [if_pos hle, run_le (Nat.le_max_left k1 k2) hk1]
          dsimp only
          rw [hh]
          exact run_le (Nat.le_max_right k1 k2) hk2
end XPL

/-! SOUND: where the pure machine comes to an end, the contract holds -/
theorem cat2 {v : Value} : v.category = 2 ↔ c1 v = false := by cases v <;> simp [Value.category, c1]
theorem en1_c1 {v : Value} {r : List Value} (h : c1 v = true) : en1 v r = v :: r := by cases v <;> first | rfl | cases h
theorem en1_c2 {v : Value} {r : List Value} (h : c1 v = false) : en1 v r = v :: UV :: r := by cases v <;> first | rfl | cases h
theorem ent_len {as : List Value} : (lg_sl as).length = (as.foldr en1 []).length := by
  induction as with
  | nil => rfl
  | cons v r ih =>
    show (lg_sl (v :: r)).length = (en1 v (r.foldr en1 [])).length
    unfold lg_sl at ih ⊢
    rw [List.flatMap_cons, List.length_append, ih]
    cases h : c1 v with
    | true => rw [en1_c1 h, if_neg (fun z => by rw [cat2, h] at z; cases z)]; simp; omega
    | false => rw [en1_c2 h, if_pos (cat2.mpr h)]; simp; omega
theorem ent_arg : ∀ (as : List Value) (off i : Nat) (v : Value), (as.foldr en1 []).getD i UV = v → v ≠ UV → i < (as.foldr en1 []).length → (off + i, v) ∈ lv_args off as := by
  intro as
  induction as with
  | nil => intro off i v h1 h2 h3; exact absurd h3 (Nat.not_lt_zero _)
  | cons w r ih =>
    intro off i v h1 h2 h3
    rw [List.foldr_cons] at h1 h3
    rw [lv_args]
    cases h : c1 w with
    | true =>
      rw [en1_c1 h] at h1 h3
      rw [if_neg (fun z => by rw [cat2, h] at z; cases z)]
      cases i with
      | zero =>
        have e : w = v := h1
        rw [e]
        exact List.mem_cons_self
      | succ i =>
        refine List.mem_cons_of_mem _ ?_
        have := ih (off + 1) i v h1 h2 (by simpa using h3)
        rwa [show off + 1 + i = off + (i + 1) by omega] at this
    | false =>
      rw [en1_c2 h] at h1 h3
      rw [if_pos (cat2.mpr h)]
      cases i with
      | zero =>
        have e : w = v := h1
        rw [e]
        exact List.mem_cons_self
      | succ i =>
        cases i with
        | zero => exact absurd (show UV = v from h1).symm h2
        | succ i =>
          refine List.mem_cons_of_mem _ ?_
          have := ih (off + 2) i v h1 h2 (by simpa using h3)
          rwa [show off + 2 + i = off + (i + 1 + 1) by omega] at this
theorem ent_ok {as : List Value} {n : Nat} (h : (as.foldr en1 []).length ≤ n) : LsOK ((lg_sl as ++ List.replicate (n - (lg_sl as).length) Slot.unset).toArray) n (ent n as) := by
  have hl : (ent n as).length = n := by
    unfold ent entp
    rw [List.length_append, List.length_replicate]
    omega
  refine LsOK.of hl (lv_entry as (by rw [ent_len]; exact h)) ?_
  rintro ⟨i, v⟩ hq
  obtain ⟨h1, h2, h3⟩ := prs_mem.mp hq
  dsimp only at h1 h2 h3
  unfold ent entp at h2
  by_cases hi : i < (as.foldr en1 []).length
  · rw [List.getD_eq_getElem?_getD, List.getElem?_append_left hi, ← List.getD_eq_getElem?_getD] at h2
    have := ent_arg as 0 i v h2 h3 hi
    rwa [Nat.zero_add] at this
  · exfalso
    apply h3
    rw [← h2, List.getD_eq_getElem?_getD, List.getElem?_append_right (Nat.not_lt.mp hi), List.getElem?_replicate]
    split <;> rfl
theorem grows.refl {G : Hp} : grows G G := ⟨rfl, Nat.le_refl _, Nat.le_refl _⟩
theorem grows.trans {G G1 G2 : Hp} (h : grows G G1) (h' : grows G1 G2) : grows G G2 := ⟨h'.1.trans h.1, Nat.le_trans h.2.1 h'.2.1, Nat.le_trans h.2.2 h'.2.2⟩
def GR (K : Nat → Prop) (T : Option Value → Prop) (G : Hp) : Cmd → Prop
  | none => True
  | some (.inl (_, _, _, G')) => grows G G'
  | some (.inr (.inl (y', _, _, _))) => K y'
  | some (.inr (.inr (.inl v))) => T v
  | some (.inr (.inr (.inr (_, G')))) => grows G G'
section SOU
variable (P : Prog) (yn : Nat → MethodName) (yb : Nat → ByteArray) (yr : Nat → Option FieldType) (yh : Nat → List (Nat × Nat × Nat × Nat))
/-- a frame of method y, d calls allowed below it -/
def CX (p : Program) (l : Launch) (e : Env) (R : Room) (s : State) (m : MethodId) (args : Array Value) (meth : Method) (c : Code) (y d : Nat) : Prop :=
  p.tables.exec = Jvm.exec ∧ c.code = yb y ∧ c.maxLocals = P.1 y ∧ meth.sig.returnType = yr y ∧ s.vm.findClass (yn y).cls = some m.cls ∧ (∀ w ∈ lw_all, w.before args s = true) ∧ TK s ∧ c.exceptionTable.toList = tableOf (yh y) ∧ meth.locks = false ∧ meth.name = (yn y).name ∧ l.stackTraces = false ∧ 2 * d + 20 ≤ R.frames ∧ 260 * d + 4000 ≤ R.locals ∧ s.methodNamed? (yn y) = some m
def MOK (y : Nat) : Prop := plainName (yn y).cls = true ∧ ((yh y = [] ∧ Cond.code (yn y) (yb y) (P.1 y) (yr y) ∈ lw_all) ∨ Cond.codeWith (yn y) (yb y) (P.1 y) (yr y) (yh y) ∈ lw_all)
def IOK (l : Launch) (y pc : Nat) (pi : PI) : Prop := (∀ ls st G, GR (MOK P yn yb yr yh) (okRet (yr y)) G (pi ls st G)) ∧
  ∀ (p : Program) (e : Env) (R : Room) (s : State) (m : MethodId) (args : Array Value) (below : List Frame) (meth : Method) (c : Code) (Q : State → Prop) (x0 s0 d : Nat) (G : Hp) (ls st : List Value), CX P yn yb yr yh p l e R s m args meth c y d →
    CmdK p l e R s m args below meth c Q x0 s0 (fun d' y' as G o G' => zMet l (yn y') lw_all d' as G o G' ∧ TyO (yr y') o) (P.2.2 y pc) d G pc ls st (pi ls st G)
variable {P yn yb yr yh}
theorem run_ty {K : Nat → Prop} (hg : ∀ y pc ls st G, GR K (okRet (yr y)) G (P.2.1 y pc ls st G)) : ∀ (k d y pc : Nat) (ls st : List Value) (G : Hp) (o : Out) (G' : Hp), run P k d y pc ls st G = some (o, G') → TyO (yr y) o := by
  intro k
  induction k with
  | zero => intro d y pc ls st G o G' h; cases h
  | succ k ih =>
    intro d y pc ls st G o G' h
    have h1 := hg y pc ls st G
    rw [run] at h
    cases hc : P.2.1 y pc ls st G with
    | none => rw [hc] at h; cases h
    | some c =>
      rw [hc] at h h1
      rcases c with ⟨pc', ls', st', G2⟩ | ⟨y', as, pc', st'⟩ | v | ⟨a, G2⟩
      · exact ih _ _ _ _ _ _ _ _ h
      · cases d with
        | zero => cases h
        | succ d =>
          dsimp only at h
          split at h
          · cases hr : run P k d y' 0 (ent (P.1 y') as) [] G with
            | none => rw [hr] at h; cases h
            | some q =>
              rw [hr] at h
              obtain ⟨o1, G1⟩ := q
              cases o1 with
              | inl v => exact ih _ _ _ _ _ _ _ _ h
              | inr a =>
                dsimp only at h
                cases hh : P.2.2 y pc (gT G1 a) with
                | none => rw [hh] at h; cases h; intro v hv; cases hv
                | some z => rw [hh] at h; exact ih _ _ _ _ _ _ _ _ h
          · cases h
      · cases h
        intro w hw
        cases hw
        exact h1
      · dsimp only at h
        cases hh : P.2.2 y pc (gT G2 a) with
        | none => rw [hh] at h; cases h; intro v hv; cases hv
        | some z => rw [hh] at h; exact ih _ _ _ _ _ _ _ _ h
theorem run_grows {K : Nat → Prop} (hg : ∀ y pc ls st G, GR K (okRet (yr y)) G (P.2.1 y pc ls st G)) : ∀ (k d y pc : Nat) (ls st : List Value) (G : Hp) (o : Out) (G' : Hp), run P k d y pc ls st G = some (o, G') → grows G G' := by
  intro k
  induction k with
  | zero => intro d y pc ls st G o G' h; cases h
  | succ k ih =>
    intro d y pc ls st G o G' h
    have h1 := hg y pc ls st G
    rw [run] at h
    cases hc : P.2.1 y pc ls st G with
    | none => rw [hc] at h; cases h
    | some c =>
      rw [hc] at h h1
      rcases c with ⟨pc', ls', st', G2⟩ | ⟨y', as, pc', st'⟩ | v | ⟨a, G2⟩
      · exact grows.trans h1 (ih _ _ _ _ _ _ _ _ h)
      · cases d with
        | zero => cases h
        | succ d =>
          dsimp only at h
          split at h
          · cases hr : run P k d y' 0 (ent (P.1 y') as) [] G with
            | none => rw [hr] at h; cases h
            | some q =>
              rw [hr] at h
              obtain ⟨o1, G1⟩ := q
              have g1 := ih _ _ _ _ _ _ _ _ hr
              cases o1 with
              | inl v => exact grows.trans g1 (ih _ _ _ _ _ _ _ _ h)
              | inr a =>
                dsimp only at h
                cases hh : P.2.2 y pc (gT G1 a) with
                | none => rw [hh] at h; cases h; exact g1
                | some z => rw [hh] at h; exact grows.trans g1 (ih _ _ _ _ _ _ _ _ h)
          · cases h
      · cases h; exact grows.refl
      · dsimp only at h
        cases hh : P.2.2 y pc (gT G2 a) with
        | none => rw [hh] at h; cases h; exact h1
        | some z => rw [hh] at h; exact grows.trans h1 (ih _ _ _ _ _ _ _ _ h)
theorem zmet_of {l : Launch} {y d : Nat} {as : List Value} {G G1 : Hp} {o1 : Out} (hm : MOK P yn yb yr yh y) (hl : l.stackTraces = false) (hle : (as.foldr en1 []).length ≤ P.1 y) (hgr : grows G G1)
    (body : ∀ (p : Program) (e : Env) (R : Room) (s : State) (m : MethodId) (args : Array Value) (below : List Frame) (meth : Method) (c : Code) (Q : State → Prop), CX P yn yb yr yh p l e R s m args meth c y d → FinK R s args below Q (gX G) (gS G) o1 G1 → WW p l e R s m args below meth c Q (gX G) (gS G) G 0 (ent (P.1 y) as) []) :
    zMet l (yn y) lw_all d as G o1 G1 := by
  obtain ⟨hpl, hcode⟩ := hm
  refine zR_of (code := yb y) (maxLocals := P.1 y) (ret := yr y) hpl ?_ ?_
  · intro args s m h hn
    rcases hcode with ⟨-, hc⟩ | hc
    · obtain ⟨meth, c, h1, h2, h3, h4, h5, h6, -, -⟩ := Cond.code_spec hn (h _ hc)
      exact ⟨meth, c, h1, h2, h3, h4, h5, h6⟩
    · obtain ⟨m9, meth, c, hn9, h1, h2, h3, h4, -, h5, h6, -⟩ := Cond.codeWith_spec (h _ hc)
      cases hn.symm.trans hn9
      exact ⟨meth, c, h1, h2, h3, h4, h5, h6⟩
  · intro p e s m args below meth c s₁ hexec hnamed hts hmeth hbytes hret hlocks hml hP hh0 hX
    have htab : c.exceptionTable.toList = tableOf (yh y) := by
      rcases hcode with ⟨h0, hc⟩ | hc
      · obtain ⟨meth9, c9, h1, h2, -, -, -, -, h7, -⟩ := Cond.code_spec hnamed (hts _ hc)
        cases Option.some.inj (h1.symm.trans hmeth)
        cases Option.some.inj (h2.symm.trans hX.code)
        rw [h0, Array.isEmpty_iff.mp h7]
        rfl
      · obtain ⟨m9, meth9, c9, hn9, h1, h2, -, -, h6, -⟩ := Cond.codeWith_spec (hts _ hc)
        cases Option.some.inj (hn9.symm.trans hnamed)
        cases Option.some.inj (h1.symm.trans hmeth)
        cases Option.some.inj (h2.symm.trans hX.code)
        rw [← h6, table_eq]
    obtain ⟨hP1, hP2, hP3, hP4⟩ := hP
    have hcx : CX P yn yb yr yh p l e (RM d (gX G1 - gX G) (gS G1 - gS G)) s m args meth c y d := ⟨hexec, hbytes, hml, hret, findClass_of_methodNamed hnamed, hts, hP4, htab, hlocks, (name_of_methodNamed hnamed hmeth).1, hl, Nat.le_refl _, Nat.le_refl _, hnamed⟩
    have eA : Abv G1 = Abv G := by unfold Abv; rw [gB_gK hgr.1]
    have hfin : FinK (RM d (gX G1 - gX G) (gS G1 - gS G)) s args below (vx_MQ below (zQc o1 G1) (zXC o1 G1) args s (gX G1 - gX G) (gS G1 - gS G) (Abv G)) (gX G) (gS G) o1 G1 := ⟨rfl, rfl, by rw [eA]; rfl⟩
    have w := body p e _ s m args below meth c _ hcx hfin _ s.heap [] (by rw [hml]; exact ent_ok hle) hP2 hP3 (fun q hq => by cases hq) (Nat.le_refl _) (Nat.le_refl _)
    rw [Nat.sub_self, Nat.sub_self] at w
    obtain ⟨t, a1, o, b1, b2, b3⟩ := w s₁ hh0 hX
    refine ⟨t, o, ?_, b1, b2, b3⟩
    have e9 : entryFrame m args (P.1 y) = F0 m 0 ((lg_sl as ++ List.replicate (P.1 y - (lg_sl as).length) Slot.unset).toArray) [] := by rw [hP1]; exact lg_entry_eq m as (P.1 y)
    first | exact a1 | (rw [e9]; exact a1)
theorem snd_run {l : Launch} (hl : l.stackTraces = false) (hi : ∀ y pc, IOK P yn yb yr yh l y pc (P.2.1 y pc)) : ∀ (k d y pc : Nat) (ls st : List Value) (G : Hp) (o : Out) (G' : Hp), run P k d y pc ls st G = some (o, G') →
    ∀ (p : Program) (e : Env) (R : Room) (s : State) (m : MethodId) (args : Array Value) (below : List Frame) (meth : Method) (c : Code) (Q : State → Prop) (x0 s0 : Nat), CX P yn yb yr yh p l e R s m args meth c y d → FinK R s args below Q x0 s0 o G' → WW p l e R s m args below meth c Q x0 s0 G pc ls st := by
  have hg : ∀ y pc ls st G, GR (MOK P yn yb yr yh) (okRet (yr y)) G (P.2.1 y pc ls st G) := fun y pc => (hi y pc).1
  intro k
  induction k with
  | zero => intro d y pc ls st G o G' h; cases h
  | succ k ih =>
    intro d y pc ls st G o G' h p e R s m args below meth c Q x0 s0 hcx hfin
    have hk := (hi y pc).2 p e R s m args below meth c Q x0 s0 d G ls st hcx
    have h1 := hg y pc ls st G
    rw [run] at h
    cases hc : P.2.1 y pc ls st G with
    | none => rw [hc] at h; cases h
    | some c9 =>
      rw [hc] at h h1 hk
      have hR1 : R.cells = gX G' - x0 := hfin.1
      have hR2 : R.slots = gS G' - s0 := hfin.2.1
      rcases c9 with ⟨pc', ls', st', G2⟩ | ⟨y', as, pc', st'⟩ | v | ⟨a, G2⟩
      · have g2 := run_grows hg _ _ _ _ _ _ _ _ _ h
        exact hk h1 (by rw [hR1]; exact Nat.sub_le_sub_right g2.2.1 _) (by rw [hR2]; exact Nat.sub_le_sub_right g2.2.2 _) (ih _ _ _ _ _ _ _ _ h _ _ _ _ _ _ _ _ _ _ _ _ hcx hfin)
      · cases d with
        | zero => cases h
        | succ d' =>
          dsimp only at h
          split at h
          · rename_i hle
            cases hr : run P k d' y' 0 (ent (P.1 y') as) [] G with
            | none => rw [hr] at h; cases h
            | some q =>
              rw [hr] at h
              obtain ⟨o1, G1⟩ := q
              have g1 := run_grows hg _ _ _ _ _ _ _ _ _ hr
              have hmok : MOK P yn yb yr yh y' := h1
              have hmet : zMet l (yn y') lw_all d' as G o1 G1 ∧ TyO (yr y') o1 := ⟨zmet_of hmok hl hle g1 fun p e R s m args below meth c Q hcx' hfin' => ih _ _ _ _ _ _ _ _ hr p e R s m args below meth c Q _ _ hcx' hfin', run_ty hg _ _ _ _ _ _ _ _ _ hr⟩
              cases o1 with
              | inl v =>
                dsimp only at h
                have g2 := run_grows hg _ _ _ _ _ _ _ _ _ h
                exact hk d' (.inl v) G1 rfl g1 (by rw [hR1]; exact Nat.sub_le_sub_right g2.2.1 _) (by rw [hR2]; exact Nat.sub_le_sub_right g2.2.2 _) hmet (ih _ _ _ _ _ _ _ _ h _ _ _ _ _ _ _ _ _ _ _ _ hcx hfin)
              | inr a =>
                dsimp only at h
                cases hh : P.2.2 y pc (gT G1 a) with
                | none =>
                  rw [hh] at h
                  cases h
                  exact hk d' (.inr a) _ rfl g1 (by rw [hR1]; exact Nat.le_refl _) (by rw [hR2]; exact Nat.le_refl _) hmet (Or.inl ⟨hh, hfin⟩)
                | some z =>
                  rw [hh] at h
                  have g2 := run_grows hg _ _ _ _ _ _ _ _ _ h
                  exact hk d' (.inr a) G1 rfl g1 (by rw [hR1]; exact Nat.sub_le_sub_right g2.2.1 _) (by rw [hR2]; exact Nat.sub_le_sub_right g2.2.2 _) hmet (Or.inr ⟨z, hh, ih _ _ _ _ _ _ _ _ h _ _ _ _ _ _ _ _ _ _ _ _ hcx hfin⟩)
          · cases h
      · cases h
        exact hk hfin
      · dsimp only at h
        cases hh : P.2.2 y pc (gT G2 a) with
        | none =>
          rw [hh] at h
          cases h
          exact hk h1 (by rw [hR1]; exact Nat.le_refl _) (by rw [hR2]; exact Nat.le_refl _) (Or.inl ⟨hh, hfin⟩)
        | some z =>
          rw [hh] at h
          have g2 := run_grows hg _ _ _ _ _ _ _ _ _ h
          exact hk h1 (by rw [hR1]; exact Nat.sub_le_sub_right g2.2.1 _) (by rw [hR2]; exact Nat.sub_le_sub_right g2.2.2 _) (Or.inr ⟨z, hh, ih _ _ _ _ _ _ _ _ h _ _ _ _ _ _ _ _ _ _ _ _ hcx hfin⟩)
end SOU

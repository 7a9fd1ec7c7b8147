/-! the twin: changes -/
def irB (x lo hi : Int32) : Bool := decide (lo ≤ x) && decide (x ≤ hi)
theorem le64 {x y : Int32} : (x.toInt64 ≤ y.toInt64) ↔ x ≤ y := by
  rw [Int64.le_iff_toInt_le, Int32.le_iff_toInt_le, Int32.toInt_toInt64, Int32.toInt_toInt64]
theorem inI32 {x y z : Int32} : inI x.toInt64 y.toInt64 z.toInt64 = irB x y z := by
  unfold inI irB
  rw [decide_eq_decide.mpr le64, decide_eq_decide.mpr le64]
theorem i64_0 : (0 : Int64) = (0 : Int32).toInt64 := by decide
theorem i64_1 : (1 : Int64) = (1 : Int32).toInt64 := by decide
theorem i64_2 : (2 : Int64) = (2 : Int32).toInt64 := by decide
theorem i64_3 : (3 : Int64) = (3 : Int32).toInt64 := by decide
theorem i64_4 : (4 : Int64) = (4 : Int32).toInt64 := by decide
theorem i64_5 : (5 : Int64) = (5 : Int32).toInt64 := by decide
theorem i64_9 : (9 : Int64) = (9 : Int32).toInt64 := by decide
theorem i64_20 : (20 : Int64) = (20 : Int32).toInt64 := by decide
theorem i64_59 : (59 : Int64) = (59 : Int32).toInt64 := by decide
theorem i64_100 : (100 : Int64) = (100 : Int32).toInt64 := by decide
theorem i64_500 : (500 : Int64) = (500 : Int32).toInt64 := by decide
theorem inI_t {x lo hi : Int32} {l h : Int64} (h1 : l = lo.toInt64) (h2 : h = hi.toInt64) : inI x.toInt64 l h = irB x lo hi := by rw [h1, h2, inI32]
theorem irB_inb {x : Int32} {A : Nat} (h1 : 1 ≤ A) (h2 : A < 2 ^ 31) : irB x 0 (nI A - 1) = inb x A := by
  have e : nI A - 1 = nI (A - 1) := nI_sub (b := 1) h1
  unfold irB
  rw [e]
  by_cases h : x < 0
  · rw [decide_eq_false (Int32.not_le.mpr h)]
    symm
    apply Bool.eq_false_iff.mpr
    intro z
    exact (inb_iff.mp z) (Or.inl h)
  · obtain ⟨k, hk, e2⟩ := nI_of h
    rw [decide_eq_true (Int32.not_lt.mp h), Bool.true_and, e2, decide_eq_decide.mpr (nI_leI hk (show A - 1 < 2 ^ 31 by omega))]
    by_cases q : k < A
    · rw [inb_nI q h2, decide_eq_true (by omega)]
    · rw [decide_eq_false (by omega)]
      symm
      apply Bool.eq_false_iff.mpr
      intro z
      have := inb_iff.mp z
      exact this (Or.inr (by rw [nI_clamp hk]; omega))
section
variable {d o : Nat} {G : Hp} {u : Mu}
set_option maxHeartbeats 4000000
theorem s_areTicks' {x : Int32} : XP PP (d + 1) 153 0 [.int x] [] G = some (.inl (some (.int (zb (irB x 1 500)))), G) := by rw [← inI_t i64_1 i64_500]; exact s_areTicks
theorem s_isTally' {x : Int32} : XP PP (d + 1) 203 0 [.int x] [] G = some (.inl (some (.int (zb (irB x 0 2)))), G) := by rw [← inI_t i64_0 i64_2]; exact s_isTally
theorem s_isAsker' {x : Int32} : XP PP (d + 1) 188 0 [.ref o, .int x] [] (mst G o u) = some (.inl (some (.int (zb (irB x 0 (u.1 0 2 - 1))))), mst G o u) := by rw [← inI_t i64_0 rfl]; exact s_isAsker
theorem s_isClass' {x : Int32} : XP PP (d + 1) 189 0 [.ref o, .int x] [] (mst G o u) = some (.inl (some (.int (zb (irB x 0 (u.1 0 1 - 1))))), mst G o u) := by rw [← inI_t i64_0 rfl]; exact s_isClass
theorem s_is1 (hb : gB G ≤ o) : XP PP d 149 0 [.ref o, .int 1] [] (mst G o u) = some (.inl (some (.int 1)), mst G o (uT u 0)) := by have := s_is (d := d) (u := u) (b := true) hb; simpa [zb] using this
theorem s_is0 (hb : gB G ≤ o) : XP PP d 149 0 [.ref o, .int 0] [] (mst G o u) = some (.inl (some (.int 0)), mst G o (uT u 1)) := by have := s_is (d := d) (u := u) (b := false) hb; simpa [zb] using this
theorem s_may1 {c : Int32} (hb : gB G ≤ o) : XP PP d 190 0 [.ref o, .int 1, .int c] [] (mst G o u) = some (.inl (some (.int 1)), mst G o (uT u 0)) := by have := s_may (d := d) (u := u) (b := true) (c := c) hb; simpa [zb] using this
theorem s_may0 {c : Int32} (hb : gB G ≤ o) : XP PP d 190 0 [.ref o, .int 0, .int c] [] (mst G o u) = some (.inl (some (.int 0)), mst G o (uT u c)) := by have := s_may (d := d) (u := u) (b := false) (c := c) hb; simpa [zb] using this
theorem uT_0 {x : Int32} : (uT u x).1 0 = va_up (u.1 0) 0 x := uR_s
theorem uT_o {x : Int32} {i : Nat} (h : ¬ i = 0) : (uT u x).1 i = u.1 i := uR_o h
theorem uT_2 {x : Int32} : (uT u x).2 = u.2 := rfl
theorem uT_T {x y : Int32} : uT (uT u x) y = uT u y := by unfold uT; rw [uR_s, uR_uR]; congr 1; funext k; unfold va_up; split <;> rfl
theorem zb_t {b : Bool} (h : b = true) : zb b = 1 := by rw [h]; rfl
theorem zb_f {b : Bool} (h : b = false) : zb b = 0 := by rw [h]; rfl
/-- the row behind a request's coming -/
def cmF (r : Rw) (n : Nat) (a k l : Int32) : Rw :=
  va_up (va_up (va_up (va_up (va_up (va_up (va_up (va_up r (118 + 6 * n) (r 6)) (118 + 6 * n + 1) a) (118 + 6 * n + 2) k) (118 + 6 * n + 3) l) (118 + 6 * n + 4) l) (118 + 6 * n + 5) (r 0)) 9 (nI (n + 1))) 6 (r 6 + 1)
theorem s_comes {n : Nat} {a k l : Int32} (hb : gB G ≤ o) (h9 : u.1 4 9 = nI n) (hn : n < 40) : XP PP d 191 0 [.ref o, .int a, .int k, .int l, UV, UV] [] (mst G o u) = some (.inl (some (.int (u.1 4 6))), mst G o (uR u 4 (cmF (u.1 4) n a k l))) := by
  have c0 : inb (nI (118 + 6 * n)) 718 = true := inb_nI (by omega) (by omega)
  have d0 : (nI (118 + 6 * n)).toNatClampNeg = 118 + 6 * n := nI_clamp (by omega)
  have c1 : inb (nI (118 + 6 * n + 1)) 718 = true := inb_nI (by omega) (by omega)
  have d1 : (nI (118 + 6 * n + 1)).toNatClampNeg = 118 + 6 * n + 1 := nI_clamp (by omega)
  have c2 : inb (nI (118 + 6 * n + 2)) 718 = true := inb_nI (by omega) (by omega)
  have d2 : (nI (118 + 6 * n + 2)).toNatClampNeg = 118 + 6 * n + 2 := nI_clamp (by omega)
  have c3 : inb (nI (118 + 6 * n + 3)) 718 = true := inb_nI (by omega) (by omega)
  have d3 : (nI (118 + 6 * n + 3)).toNatClampNeg = 118 + 6 * n + 3 := nI_clamp (by omega)
  have c4 : inb (nI (118 + 6 * n + 4)) 718 = true := inb_nI (by omega) (by omega)
  have d4 : (nI (118 + 6 * n + 4)).toNatClampNeg = 118 + 6 * n + 4 := nI_clamp (by omega)
  have c5 : inb (nI (118 + 6 * n + 5)) 718 = true := inb_nI (by omega) (by omega)
  have d5 : (nI (118 + 6 * n + 5)).toNatClampNeg = 118 + 6 * n + 5 := nI_clamp (by omega)
  simp [x191_0, x191_1, x191_4, x191_6, x191_7, x191_9, x191_11, x191_13, x191_14, x191_17, x191_19, x191_20, x191_21, x191_22, x191_24, x191_25, x191_28, x191_30, x191_31, x191_32, x191_34, x191_35, x191_36, x191_39, x191_41, x191_42, x191_43, x191_44, x191_45, x191_46, x191_49, x191_51, x191_52, x191_53, x191_54, x191_55, x191_56, x191_59, x191_61, x191_62, x191_63, x191_64, x191_65, x191_66, x191_69, x191_71, x191_72, x191_73, x191_74, x191_75, x191_76, x191_79, x191_81, x191_82, x191_83, x191_84, x191_87, x191_88, x191_89, x191_90, x191_91, x191_94, x191_96, x191_97, x191_100, x191_102, x191_103, x191_104, x191_105, x191_106, x191_107, x191_110, x191_112, x191_114, x191_115, x191_116, x191_117, x191_119, rf_ref, c1_int, c1_ref, c1_UV, mst_T0, mst_I0, mst_R0, mst_J0, mst_T, mst_N, mst_I, mst_J, mst_B, mst_sI, mst_sI0, mst_sJ, mst_sJ0, uR_s, uR_o, uR_2, uR_uR, uL_s, uL_o, uL_1, up_s, up_o, mT, mN, mR, va_rf_some, litA, litB, litM, nI_add, okZ_0, okZ_1, okZ_zb, zb_0, gB_add, inb_lit, cl_lit, Nat.lt_irrefl, ↓reduceIte, if_true, if_false, RP_v, RP_n, h9, c0, d0, c1, d1, c2, d2, c3, d3, c4, d4, c5, d5, hb]
  simp (disch := omega) only [up_s, up_o, h9, nI_1]
  unfold cmF
  simp only []
end

/-! the twin's small methods -/
def inI (v lo hi : Int64) : Bool := decide (lo ≤ v) && decide (v ≤ hi)
theorem lgl {x y : Int64} : (lg_cmp x y < 0) = (¬ y ≤ x) := by
  unfold lg_cmp
  by_cases h : x > y
  · rw [if_pos h]; simp [Int64.le_of_lt h]
  · rw [if_neg h]
    by_cases e : x = y
    · subst e; simp
    · rw [if_neg e]; have : ¬ y ≤ x := fun z => h (Int64.lt_of_le_of_ne z (Ne.symm e)); simp [this]
theorem lgg {x y : Int64} : (0 < lg_cmp x y) = (¬ x ≤ y) := by
  unfold lg_cmp
  by_cases h : x > y
  · rw [if_pos h]; have : ¬ x ≤ y := Int64.not_le.mpr h; simp [this]
  · rw [if_neg h]; have h' : x ≤ y := Int64.not_lt.mp h
    by_cases e : x = y
    · subst e; simp
    · rw [if_neg e]; simp [h']
section
variable {d o : Nat} {G : Hp} {u : Mu}
set_option maxHeartbeats 4000000
theorem s_isIn {G : Hp} {v lo hi : Int64} : XP PP d 154 0 [.long v, UV, .long lo, UV, .long hi, UV] [] G = some (.inl (some (.int (zb (inI v lo hi)))), G) := by
  unfold inI zb
  by_cases h1 : lo ≤ v
  · by_cases h2 : v ≤ hi
    · simp [x154_0, x154_1, x154_2, x154_3, x154_6, x154_7, x154_9, x154_10, x154_13, x154_14, x154_17, x154_18, rf_ref, c1_int, c1_ref, c1_UV, mst_T0, mst_I0, mst_R0, mst_J0, mst_T, mst_N, mst_I, mst_J, mst_B, mst_sI, mst_sI0, mst_sJ, mst_sJ0, uR_s, uR_o, uR_2, uR_uR, uL_s, uL_o, uL_1, up_s, up_o, mT, mN, mR, va_rf_some, litA, litB, litM, nI_add, okZ_0, okZ_1, okZ_zb, zb_0, gB_add, inb_lit, cl_lit, Nat.lt_irrefl, ↓reduceIte, if_true, if_false, RP_v, RP_n, h1, h2, lgl, lgg]
    · simp [x154_0, x154_1, x154_2, x154_3, x154_6, x154_7, x154_9, x154_10, x154_13, x154_14, x154_17, x154_18, rf_ref, c1_int, c1_ref, c1_UV, mst_T0, mst_I0, mst_R0, mst_J0, mst_T, mst_N, mst_I, mst_J, mst_B, mst_sI, mst_sI0, mst_sJ, mst_sJ0, uR_s, uR_o, uR_2, uR_uR, uL_s, uL_o, uL_1, up_s, up_o, mT, mN, mR, va_rf_some, litA, litB, litM, nI_add, okZ_0, okZ_1, okZ_zb, zb_0, gB_add, inb_lit, cl_lit, Nat.lt_irrefl, ↓reduceIte, if_true, if_false, RP_v, RP_n, h1, h2, lgl, lgg]
  · simp [x154_0, x154_1, x154_2, x154_3, x154_6, x154_7, x154_9, x154_10, x154_13, x154_14, x154_17, x154_18, rf_ref, c1_int, c1_ref, c1_UV, mst_T0, mst_I0, mst_R0, mst_J0, mst_T, mst_N, mst_I, mst_J, mst_B, mst_sI, mst_sI0, mst_sJ, mst_sJ0, uR_s, uR_o, uR_2, uR_uR, uL_s, uL_o, uL_1, up_s, up_o, mT, mN, mR, va_rf_some, litA, litB, litM, nI_add, okZ_0, okZ_1, okZ_zb, zb_0, gB_add, inb_lit, cl_lit, Nat.lt_irrefl, ↓reduceIte, if_true, if_false, RP_v, RP_n, h1, lgl, lgg]
theorem s_lesser {v w : Int32} : XP PP d 172 0 [.int v, .int w] [] G = some (.inl (some (.int (if v < w then v else w))), G) := by
  by_cases h : v < w
  · simp [x172_0, x172_1, x172_2, x172_5, x172_6, x172_9, x172_10, rf_ref, c1_int, c1_ref, c1_UV, mst_T0, mst_I0, mst_R0, mst_J0, mst_T, mst_N, mst_I, mst_J, mst_B, mst_sI, mst_sI0, mst_sJ, mst_sJ0, uR_s, uR_o, uR_2, uR_uR, uL_s, uL_o, uL_1, up_s, up_o, mT, mN, mR, va_rf_some, litA, litB, litM, nI_add, okZ_0, okZ_1, okZ_zb, zb_0, gB_add, inb_lit, cl_lit, Nat.lt_irrefl, ↓reduceIte, if_true, if_false, RP_v, RP_n, h, Int32.not_le.mpr h]
  · simp [x172_0, x172_1, x172_2, x172_5, x172_6, x172_9, x172_10, rf_ref, c1_int, c1_ref, c1_UV, mst_T0, mst_I0, mst_R0, mst_J0, mst_T, mst_N, mst_I, mst_J, mst_B, mst_sI, mst_sI0, mst_sJ, mst_sJ0, uR_s, uR_o, uR_2, uR_uR, uL_s, uL_o, uL_1, up_s, up_o, mT, mN, mR, va_rf_some, litA, litB, litM, nI_add, okZ_0, okZ_1, okZ_zb, zb_0, gB_add, inb_lit, cl_lit, Nat.lt_irrefl, ↓reduceIte, if_true, if_false, RP_v, RP_n, h, Int32.not_lt.mp h]
theorem s_greater {v w : Int32} : XP PP d 199 0 [.int v, .int w] [] G = some (.inl (some (.int (if w < v then v else w))), G) := by
  by_cases h : w < v
  · simp [x199_0, x199_1, x199_2, x199_5, x199_6, x199_9, x199_10, rf_ref, c1_int, c1_ref, c1_UV, mst_T0, mst_I0, mst_R0, mst_J0, mst_T, mst_N, mst_I, mst_J, mst_B, mst_sI, mst_sI0, mst_sJ, mst_sJ0, uR_s, uR_o, uR_2, uR_uR, uL_s, uL_o, uL_1, up_s, up_o, mT, mN, mR, va_rf_some, litA, litB, litM, nI_add, okZ_0, okZ_1, okZ_zb, zb_0, gB_add, inb_lit, cl_lit, Nat.lt_irrefl, ↓reduceIte, if_true, if_false, RP_v, RP_n, h, Int32.not_le.mpr h]
  · simp [x199_0, x199_1, x199_2, x199_5, x199_6, x199_9, x199_10, rf_ref, c1_int, c1_ref, c1_UV, mst_T0, mst_I0, mst_R0, mst_J0, mst_T, mst_N, mst_I, mst_J, mst_B, mst_sI, mst_sI0, mst_sJ, mst_sJ0, uR_s, uR_o, uR_2, uR_uR, uL_s, uL_o, uL_1, up_s, up_o, mT, mN, mR, va_rf_some, litA, litB, litM, nI_add, okZ_0, okZ_1, okZ_zb, zb_0, gB_add, inb_lit, cl_lit, Nat.lt_irrefl, ↓reduceIte, if_true, if_false, RP_v, RP_n, h, Int32.not_lt.mp h]
def hasB (s k : Int32) : Bool := decide ((s >>> (k &&& 31)) &&& 1 = 1)
theorem s_has {s k : Int32} : XP PP d 174 0 [.int s, .int k] [] G = some (.inl (some (.int (zb (hasB s k)))), G) := by
  unfold hasB zb
  by_cases h : (s >>> (k &&& 31)) &&& 1 = 1
  · simp [x174_0, x174_1, x174_2, x174_3, x174_4, x174_5, x174_6, x174_9, x174_10, x174_13, x174_14, rf_ref, c1_int, c1_ref, c1_UV, mst_T0, mst_I0, mst_R0, mst_J0, mst_T, mst_N, mst_I, mst_J, mst_B, mst_sI, mst_sI0, mst_sJ, mst_sJ0, uR_s, uR_o, uR_2, uR_uR, uL_s, uL_o, uL_1, up_s, up_o, mT, mN, mR, va_rf_some, litA, litB, litM, nI_add, okZ_0, okZ_1, okZ_zb, zb_0, gB_add, inb_lit, cl_lit, Nat.lt_irrefl, ↓reduceIte, if_true, if_false, RP_v, RP_n, h]
  · simp [x174_0, x174_1, x174_2, x174_3, x174_4, x174_5, x174_6, x174_9, x174_10, x174_13, x174_14, rf_ref, c1_int, c1_ref, c1_UV, mst_T0, mst_I0, mst_R0, mst_J0, mst_T, mst_N, mst_I, mst_J, mst_B, mst_sI, mst_sI0, mst_sJ, mst_sJ0, uR_s, uR_o, uR_2, uR_uR, uL_s, uL_o, uL_1, up_s, up_o, mT, mN, mR, va_rf_some, litA, litB, litM, nI_add, okZ_0, okZ_1, okZ_zb, zb_0, gB_add, inb_lit, cl_lit, Nat.lt_irrefl, ↓reduceIte, if_true, if_false, RP_v, RP_n, h]
/-- what the answer was told -/
def uT (u : Mu) (x : Int32) : Mu := uR u 0 (va_up (u.1 0) 0 x)
theorem s_is {b : Bool} (hb : gB G ≤ o) : XP PP d 149 0 [.ref o, .int (zb b)] [] (mst G o u) = some (.inl (some (.int (zb b))), mst G o (uT u (if b = true then 0 else 1))) := by
  cases b
  · simp [x149_0, x149_1, x149_2, x149_5, x149_6, x149_9, x149_10, x149_13, x149_14, rf_ref, c1_int, c1_ref, c1_UV, mst_T0, mst_I0, mst_R0, mst_J0, mst_T, mst_N, mst_I, mst_J, mst_B, mst_sI, mst_sI0, mst_sJ, mst_sJ0, uR_s, uR_o, uR_2, uR_uR, uL_s, uL_o, uL_1, up_s, up_o, mT, mN, mR, va_rf_some, litA, litB, litM, nI_add, okZ_0, okZ_1, okZ_zb, zb_0, gB_add, inb_lit, cl_lit, Nat.lt_irrefl, ↓reduceIte, if_true, if_false, RP_v, RP_n, uT, hb, zb]
  · simp [x149_0, x149_1, x149_2, x149_5, x149_6, x149_9, x149_10, x149_13, x149_14, rf_ref, c1_int, c1_ref, c1_UV, mst_T0, mst_I0, mst_R0, mst_J0, mst_T, mst_N, mst_I, mst_J, mst_B, mst_sI, mst_sI0, mst_sJ, mst_sJ0, uR_s, uR_o, uR_2, uR_uR, uL_s, uL_o, uL_1, up_s, up_o, mT, mN, mR, va_rf_some, litA, litB, litM, nI_add, okZ_0, okZ_1, okZ_zb, zb_0, gB_add, inb_lit, cl_lit, Nat.lt_irrefl, ↓reduceIte, if_true, if_false, RP_v, RP_n, uT, hb, zb]
theorem s_may {b : Bool} {c : Int32} (hb : gB G ≤ o) : XP PP d 190 0 [.ref o, .int (zb b), .int c] [] (mst G o u) = some (.inl (some (.int (zb b))), mst G o (uT u (if b = true then 0 else c))) := by
  cases b
  · simp [x190_0, x190_1, x190_2, x190_5, x190_6, x190_9, x190_10, x190_13, x190_14, rf_ref, c1_int, c1_ref, c1_UV, mst_T0, mst_I0, mst_R0, mst_J0, mst_T, mst_N, mst_I, mst_J, mst_B, mst_sI, mst_sI0, mst_sJ, mst_sJ0, uR_s, uR_o, uR_2, uR_uR, uL_s, uL_o, uL_1, up_s, up_o, mT, mN, mR, va_rf_some, litA, litB, litM, nI_add, okZ_0, okZ_1, okZ_zb, zb_0, gB_add, inb_lit, cl_lit, Nat.lt_irrefl, ↓reduceIte, if_true, if_false, RP_v, RP_n, uT, hb, zb]
  · simp [x190_0, x190_1, x190_2, x190_5, x190_6, x190_9, x190_10, x190_13, x190_14, rf_ref, c1_int, c1_ref, c1_UV, mst_T0, mst_I0, mst_R0, mst_J0, mst_T, mst_N, mst_I, mst_J, mst_B, mst_sI, mst_sI0, mst_sJ, mst_sJ0, uR_s, uR_o, uR_2, uR_uR, uL_s, uL_o, uL_1, up_s, up_o, mT, mN, mR, va_rf_some, litA, litB, litM, nI_add, okZ_0, okZ_1, okZ_zb, zb_0, gB_add, inb_lit, cl_lit, Nat.lt_irrefl, ↓reduceIte, if_true, if_false, RP_v, RP_n, uT, hb, zb]
theorem s_areTicks {x : Int32} : XP PP (d + 1) 153 0 [.int x] [] G = some (.inl (some (.int (zb (inI x.toInt64 1 500)))), G) := by
  simp [x153_0, x153_1, x153_2, x153_3, x153_6, x153_9, rf_ref, c1_int, c1_ref, c1_UV, mst_T0, mst_I0, mst_R0, mst_J0, mst_T, mst_N, mst_I, mst_J, mst_B, mst_sI, mst_sI0, mst_sJ, mst_sJ0, uR_s, uR_o, uR_2, uR_uR, uL_s, uL_o, uL_1, up_s, up_o, mT, mN, mR, va_rf_some, litA, litB, litM, nI_add, okZ_0, okZ_1, okZ_zb, zb_0, gB_add, inb_lit, cl_lit, Nat.lt_irrefl, ↓reduceIte, if_true, if_false, RP_v, RP_n, s_isIn]
theorem s_isTally {x : Int32} : XP PP (d + 1) 203 0 [.int x] [] G = some (.inl (some (.int (zb (inI x.toInt64 0 2)))), G) := by
  simp [x203_0, x203_1, x203_2, x203_3, x203_6, x203_9, rf_ref, c1_int, c1_ref, c1_UV, mst_T0, mst_I0, mst_R0, mst_J0, mst_T, mst_N, mst_I, mst_J, mst_B, mst_sI, mst_sI0, mst_sJ, mst_sJ0, uR_s, uR_o, uR_2, uR_uR, uL_s, uL_o, uL_1, up_s, up_o, mT, mN, mR, va_rf_some, litA, litB, litM, nI_add, okZ_0, okZ_1, okZ_zb, zb_0, gB_add, inb_lit, cl_lit, Nat.lt_irrefl, ↓reduceIte, if_true, if_false, RP_v, RP_n, s_isIn]
theorem s_isAsker {x : Int32} : XP PP (d + 1) 188 0 [.ref o, .int x] [] (mst G o u) = some (.inl (some (.int (zb (inI x.toInt64 0 (u.1 0 2 - 1).toInt64)))), mst G o u) := by
  simp [x188_0, x188_1, x188_2, x188_3, x188_4, x188_7, x188_8, x188_9, x188_10, x188_13, rf_ref, c1_int, c1_ref, c1_UV, mst_T0, mst_I0, mst_R0, mst_J0, mst_T, mst_N, mst_I, mst_J, mst_B, mst_sI, mst_sI0, mst_sJ, mst_sJ0, uR_s, uR_o, uR_2, uR_uR, uL_s, uL_o, uL_1, up_s, up_o, mT, mN, mR, va_rf_some, litA, litB, litM, nI_add, okZ_0, okZ_1, okZ_zb, zb_0, gB_add, inb_lit, cl_lit, Nat.lt_irrefl, ↓reduceIte, if_true, if_false, RP_v, RP_n, s_isIn]
theorem s_isClass {x : Int32} : XP PP (d + 1) 189 0 [.ref o, .int x] [] (mst G o u) = some (.inl (some (.int (zb (inI x.toInt64 0 (u.1 0 1 - 1).toInt64)))), mst G o u) := by
  simp [x189_0, x189_1, x189_2, x189_3, x189_4, x189_7, x189_8, x189_9, x189_10, x189_13, rf_ref, c1_int, c1_ref, c1_UV, mst_T0, mst_I0, mst_R0, mst_J0, mst_T, mst_N, mst_I, mst_J, mst_B, mst_sI, mst_sI0, mst_sJ, mst_sJ0, uR_s, uR_o, uR_2, uR_uR, uL_s, uL_o, uL_1, up_s, up_o, mT, mN, mR, va_rf_some, litA, litB, litM, nI_add, okZ_0, okZ_1, okZ_zb, zb_0, gB_add, inb_lit, cl_lit, Nat.lt_irrefl, ↓reduceIte, if_true, if_false, RP_v, RP_n, s_isIn]
end

/-! EACH INSTRUCTION's PROMISE: written by wip/gen/iok.py and wip/src/16.hand -/
theorem gr_oJ {K : Nat → Prop} {T : Option Value → Prop} {o : Option (List Value)} {n : Nat} {st : List Value} {G : Hp} : GR K T G (oJ o n st G) := by cases o <;> first | exact trivial | exact grows.refl
theorem gr_pK {v : Value} {n : Nat} {K : Nat → Prop} {T : Option Value → Prop} (ls st : List Value) (G : Hp) : GR K T G (pK v n ls st G) := by
  unfold pK
  repeat' (first | exact ht _ | exact ht | exact grows.refl | exact gr_oJ | exact trivial | exact ⟨rfl, Nat.le_refl _, Nat.le_refl _⟩ | exact ⟨rfl, Nat.le_succ _, Nat.le_add_right _ _⟩ | split)
theorem gr_pIload {i n : Nat} {K : Nat → Prop} {T : Option Value → Prop} (ls st : List Value) (G : Hp) : GR K T G (pIload i n ls st G) := by
  unfold pIload
  repeat' (first | exact ht _ | exact ht | exact grows.refl | exact gr_oJ | exact trivial | exact ⟨rfl, Nat.le_refl _, Nat.le_refl _⟩ | exact ⟨rfl, Nat.le_succ _, Nat.le_add_right _ _⟩ | split)
theorem gr_pLload {i n : Nat} {K : Nat → Prop} {T : Option Value → Prop} (ls st : List Value) (G : Hp) : GR K T G (pLload i n ls st G) := by
  unfold pLload
  repeat' (first | exact ht _ | exact ht | exact grows.refl | exact gr_oJ | exact trivial | exact ⟨rfl, Nat.le_refl _, Nat.le_refl _⟩ | exact ⟨rfl, Nat.le_succ _, Nat.le_add_right _ _⟩ | split)
theorem gr_pFload {i n : Nat} {K : Nat → Prop} {T : Option Value → Prop} (ls st : List Value) (G : Hp) : GR K T G (pFload i n ls st G) := by
  unfold pFload
  repeat' (first | exact ht _ | exact ht | exact grows.refl | exact gr_oJ | exact trivial | exact ⟨rfl, Nat.le_refl _, Nat.le_refl _⟩ | exact ⟨rfl, Nat.le_succ _, Nat.le_add_right _ _⟩ | split)
theorem gr_pDload {i n : Nat} {K : Nat → Prop} {T : Option Value → Prop} (ls st : List Value) (G : Hp) : GR K T G (pDload i n ls st G) := by
  unfold pDload
  repeat' (first | exact ht _ | exact ht | exact grows.refl | exact gr_oJ | exact trivial | exact ⟨rfl, Nat.le_refl _, Nat.le_refl _⟩ | exact ⟨rfl, Nat.le_succ _, Nat.le_add_right _ _⟩ | split)
theorem gr_pAload {i n : Nat} {K : Nat → Prop} {T : Option Value → Prop} (ls st : List Value) (G : Hp) : GR K T G (pAload i n ls st G) := by
  unfold pAload
  repeat' (first | exact ht _ | exact ht | exact grows.refl | exact gr_oJ | exact trivial | exact ⟨rfl, Nat.le_refl _, Nat.le_refl _⟩ | exact ⟨rfl, Nat.le_succ _, Nat.le_add_right _ _⟩ | split)
theorem gr_pIstore {i n : Nat} {K : Nat → Prop} {T : Option Value → Prop} (ls st : List Value) (G : Hp) : GR K T G (pIstore i n ls st G) := by
  unfold pIstore
  repeat' (first | exact ht _ | exact ht | exact grows.refl | exact gr_oJ | exact trivial | exact ⟨rfl, Nat.le_refl _, Nat.le_refl _⟩ | exact ⟨rfl, Nat.le_succ _, Nat.le_add_right _ _⟩ | split)
theorem gr_pFstore {i n : Nat} {K : Nat → Prop} {T : Option Value → Prop} (ls st : List Value) (G : Hp) : GR K T G (pFstore i n ls st G) := by
  unfold pFstore
  repeat' (first | exact ht _ | exact ht | exact grows.refl | exact gr_oJ | exact trivial | exact ⟨rfl, Nat.le_refl _, Nat.le_refl _⟩ | exact ⟨rfl, Nat.le_succ _, Nat.le_add_right _ _⟩ | split)
theorem gr_pLstore {i n : Nat} {K : Nat → Prop} {T : Option Value → Prop} (ls st : List Value) (G : Hp) : GR K T G (pLstore i n ls st G) := by
  unfold pLstore
  repeat' (first | exact ht _ | exact ht | exact grows.refl | exact gr_oJ | exact trivial | exact ⟨rfl, Nat.le_refl _, Nat.le_refl _⟩ | exact ⟨rfl, Nat.le_succ _, Nat.le_add_right _ _⟩ | split)
theorem gr_pDstore {i n : Nat} {K : Nat → Prop} {T : Option Value → Prop} (ls st : List Value) (G : Hp) : GR K T G (pDstore i n ls st G) := by
  unfold pDstore
  repeat' (first | exact ht _ | exact ht | exact grows.refl | exact gr_oJ | exact trivial | exact ⟨rfl, Nat.le_refl _, Nat.le_refl _⟩ | exact ⟨rfl, Nat.le_succ _, Nat.le_add_right _ _⟩ | split)
theorem gr_pAstore {i n : Nat} {K : Nat → Prop} {T : Option Value → Prop} (ls st : List Value) (G : Hp) : GR K T G (pAstore i n ls st G) := by
  unfold pAstore
  repeat' (first | exact ht _ | exact ht | exact grows.refl | exact gr_oJ | exact trivial | exact ⟨rfl, Nat.le_refl _, Nat.le_refl _⟩ | exact ⟨rfl, Nat.le_succ _, Nat.le_add_right _ _⟩ | split)
theorem gr_pIinc {i : Nat} {c : Int32} {n : Nat} {K : Nat → Prop} {T : Option Value → Prop} (ls st : List Value) (G : Hp) : GR K T G (pIinc i c n ls st G) := by
  unfold pIinc
  repeat' (first | exact ht _ | exact ht | exact grows.refl | exact gr_oJ | exact trivial | exact ⟨rfl, Nat.le_refl _, Nat.le_refl _⟩ | exact ⟨rfl, Nat.le_succ _, Nat.le_add_right _ _⟩ | split)
theorem gr_pI2 {f : Int32 → Int32 → Int32} {n : Nat} {K : Nat → Prop} {T : Option Value → Prop} (ls st : List Value) (G : Hp) : GR K T G (pI2 f n ls st G) := by
  unfold pI2
  repeat' (first | exact ht _ | exact ht | exact grows.refl | exact gr_oJ | exact trivial | exact ⟨rfl, Nat.le_refl _, Nat.le_refl _⟩ | exact ⟨rfl, Nat.le_succ _, Nat.le_add_right _ _⟩ | split)
theorem gr_pIadd {n : Nat} {K : Nat → Prop} {T : Option Value → Prop} (ls st : List Value) (G : Hp) : GR K T G (pIadd n ls st G) := by
  unfold pIadd pI2
  repeat' (first | exact ht _ | exact ht | exact grows.refl | exact gr_oJ | exact trivial | exact ⟨rfl, Nat.le_refl _, Nat.le_refl _⟩ | exact ⟨rfl, Nat.le_succ _, Nat.le_add_right _ _⟩ | split)
theorem gr_pIsub {n : Nat} {K : Nat → Prop} {T : Option Value → Prop} (ls st : List Value) (G : Hp) : GR K T G (pIsub n ls st G) := by
  unfold pIsub pI2
  repeat' (first | exact ht _ | exact ht | exact grows.refl | exact gr_oJ | exact trivial | exact ⟨rfl, Nat.le_refl _, Nat.le_refl _⟩ | exact ⟨rfl, Nat.le_succ _, Nat.le_add_right _ _⟩ | split)
theorem gr_pImul {n : Nat} {K : Nat → Prop} {T : Option Value → Prop} (ls st : List Value) (G : Hp) : GR K T G (pImul n ls st G) := by
  unfold pImul pI2
  repeat' (first | exact ht _ | exact ht | exact grows.refl | exact gr_oJ | exact trivial | exact ⟨rfl, Nat.le_refl _, Nat.le_refl _⟩ | exact ⟨rfl, Nat.le_succ _, Nat.le_add_right _ _⟩ | split)
theorem gr_pIand {n : Nat} {K : Nat → Prop} {T : Option Value → Prop} (ls st : List Value) (G : Hp) : GR K T G (pIand n ls st G) := by
  unfold pIand pI2
  repeat' (first | exact ht _ | exact ht | exact grows.refl | exact gr_oJ | exact trivial | exact ⟨rfl, Nat.le_refl _, Nat.le_refl _⟩ | exact ⟨rfl, Nat.le_succ _, Nat.le_add_right _ _⟩ | split)
theorem gr_pIor {n : Nat} {K : Nat → Prop} {T : Option Value → Prop} (ls st : List Value) (G : Hp) : GR K T G (pIor n ls st G) := by
  unfold pIor pI2
  repeat' (first | exact ht _ | exact ht | exact grows.refl | exact gr_oJ | exact trivial | exact ⟨rfl, Nat.le_refl _, Nat.le_refl _⟩ | exact ⟨rfl, Nat.le_succ _, Nat.le_add_right _ _⟩ | split)
theorem gr_pIxor {n : Nat} {K : Nat → Prop} {T : Option Value → Prop} (ls st : List Value) (G : Hp) : GR K T G (pIxor n ls st G) := by
  unfold pIxor pI2
  repeat' (first | exact ht _ | exact ht | exact grows.refl | exact gr_oJ | exact trivial | exact ⟨rfl, Nat.le_refl _, Nat.le_refl _⟩ | exact ⟨rfl, Nat.le_succ _, Nat.le_add_right _ _⟩ | split)
theorem gr_pIshl {n : Nat} {K : Nat → Prop} {T : Option Value → Prop} (ls st : List Value) (G : Hp) : GR K T G (pIshl n ls st G) := by
  unfold pIshl pI2
  repeat' (first | exact ht _ | exact ht | exact grows.refl | exact gr_oJ | exact trivial | exact ⟨rfl, Nat.le_refl _, Nat.le_refl _⟩ | exact ⟨rfl, Nat.le_succ _, Nat.le_add_right _ _⟩ | split)
theorem gr_pIshr {n : Nat} {K : Nat → Prop} {T : Option Value → Prop} (ls st : List Value) (G : Hp) : GR K T G (pIshr n ls st G) := by
  unfold pIshr pI2
  repeat' (first | exact ht _ | exact ht | exact grows.refl | exact gr_oJ | exact trivial | exact ⟨rfl, Nat.le_refl _, Nat.le_refl _⟩ | exact ⟨rfl, Nat.le_succ _, Nat.le_add_right _ _⟩ | split)
theorem gr_pIushr {n : Nat} {K : Nat → Prop} {T : Option Value → Prop} (ls st : List Value) (G : Hp) : GR K T G (pIushr n ls st G) := by
  unfold pIushr pI2
  repeat' (first | exact ht _ | exact ht | exact grows.refl | exact gr_oJ | exact trivial | exact ⟨rfl, Nat.le_refl _, Nat.le_refl _⟩ | exact ⟨rfl, Nat.le_succ _, Nat.le_add_right _ _⟩ | split)
theorem gr_pIdiv {n : Nat} {K : Nat → Prop} {T : Option Value → Prop} (ls st : List Value) (G : Hp) : GR K T G (pIdiv n ls st G) := by
  unfold pIdiv
  repeat' (first | exact ht _ | exact ht | exact grows.refl | exact gr_oJ | exact trivial | exact ⟨rfl, Nat.le_refl _, Nat.le_refl _⟩ | exact ⟨rfl, Nat.le_succ _, Nat.le_add_right _ _⟩ | split)
theorem gr_pIrem {n : Nat} {K : Nat → Prop} {T : Option Value → Prop} (ls st : List Value) (G : Hp) : GR K T G (pIrem n ls st G) := by
  unfold pIrem
  repeat' (first | exact ht _ | exact ht | exact grows.refl | exact gr_oJ | exact trivial | exact ⟨rfl, Nat.le_refl _, Nat.le_refl _⟩ | exact ⟨rfl, Nat.le_succ _, Nat.le_add_right _ _⟩ | split)
theorem gr_pI1 {f : Int32 → Value} {n : Nat} {K : Nat → Prop} {T : Option Value → Prop} (ls st : List Value) (G : Hp) : GR K T G (pI1 f n ls st G) := by
  unfold pI1
  repeat' (first | exact ht _ | exact ht | exact grows.refl | exact gr_oJ | exact trivial | exact ⟨rfl, Nat.le_refl _, Nat.le_refl _⟩ | exact ⟨rfl, Nat.le_succ _, Nat.le_add_right _ _⟩ | split)
theorem gr_pIneg {n : Nat} {K : Nat → Prop} {T : Option Value → Prop} (ls st : List Value) (G : Hp) : GR K T G (pIneg n ls st G) := by
  unfold pIneg pI1
  repeat' (first | exact ht _ | exact ht | exact grows.refl | exact gr_oJ | exact trivial | exact ⟨rfl, Nat.le_refl _, Nat.le_refl _⟩ | exact ⟨rfl, Nat.le_succ _, Nat.le_add_right _ _⟩ | split)
theorem gr_pI2l {n : Nat} {K : Nat → Prop} {T : Option Value → Prop} (ls st : List Value) (G : Hp) : GR K T G (pI2l n ls st G) := by
  unfold pI2l pI1
  repeat' (first | exact ht _ | exact ht | exact grows.refl | exact gr_oJ | exact trivial | exact ⟨rfl, Nat.le_refl _, Nat.le_refl _⟩ | exact ⟨rfl, Nat.le_succ _, Nat.le_add_right _ _⟩ | split)
theorem gr_pI2b {n : Nat} {K : Nat → Prop} {T : Option Value → Prop} (ls st : List Value) (G : Hp) : GR K T G (pI2b n ls st G) := by
  unfold pI2b pI1
  repeat' (first | exact ht _ | exact ht | exact grows.refl | exact gr_oJ | exact trivial | exact ⟨rfl, Nat.le_refl _, Nat.le_refl _⟩ | exact ⟨rfl, Nat.le_succ _, Nat.le_add_right _ _⟩ | split)
theorem gr_pI2c {n : Nat} {K : Nat → Prop} {T : Option Value → Prop} (ls st : List Value) (G : Hp) : GR K T G (pI2c n ls st G) := by
  unfold pI2c pI1
  repeat' (first | exact ht _ | exact ht | exact grows.refl | exact gr_oJ | exact trivial | exact ⟨rfl, Nat.le_refl _, Nat.le_refl _⟩ | exact ⟨rfl, Nat.le_succ _, Nat.le_add_right _ _⟩ | split)
theorem gr_pI2f {n : Nat} {K : Nat → Prop} {T : Option Value → Prop} (ls st : List Value) (G : Hp) : GR K T G (pI2f n ls st G) := by
  unfold pI2f pI1
  repeat' (first | exact ht _ | exact ht | exact grows.refl | exact gr_oJ | exact trivial | exact ⟨rfl, Nat.le_refl _, Nat.le_refl _⟩ | exact ⟨rfl, Nat.le_succ _, Nat.le_add_right _ _⟩ | split)
theorem gr_pI2d {n : Nat} {K : Nat → Prop} {T : Option Value → Prop} (ls st : List Value) (G : Hp) : GR K T G (pI2d n ls st G) := by
  unfold pI2d pI1
  repeat' (first | exact ht _ | exact ht | exact grows.refl | exact gr_oJ | exact trivial | exact ⟨rfl, Nat.le_refl _, Nat.le_refl _⟩ | exact ⟨rfl, Nat.le_succ _, Nat.le_add_right _ _⟩ | split)
theorem gr_pL2 {f : Int64 → Int64 → Int64} {n : Nat} {K : Nat → Prop} {T : Option Value → Prop} (ls st : List Value) (G : Hp) : GR K T G (pL2 f n ls st G) := by
  unfold pL2
  repeat' (first | exact ht _ | exact ht | exact grows.refl | exact gr_oJ | exact trivial | exact ⟨rfl, Nat.le_refl _, Nat.le_refl _⟩ | exact ⟨rfl, Nat.le_succ _, Nat.le_add_right _ _⟩ | split)
theorem gr_pLadd {n : Nat} {K : Nat → Prop} {T : Option Value → Prop} (ls st : List Value) (G : Hp) : GR K T G (pLadd n ls st G) := by
  unfold pLadd pL2
  repeat' (first | exact ht _ | exact ht | exact grows.refl | exact gr_oJ | exact trivial | exact ⟨rfl, Nat.le_refl _, Nat.le_refl _⟩ | exact ⟨rfl, Nat.le_succ _, Nat.le_add_right _ _⟩ | split)
theorem gr_pLsub {n : Nat} {K : Nat → Prop} {T : Option Value → Prop} (ls st : List Value) (G : Hp) : GR K T G (pLsub n ls st G) := by
  unfold pLsub pL2
  repeat' (first | exact ht _ | exact ht | exact grows.refl | exact gr_oJ | exact trivial | exact ⟨rfl, Nat.le_refl _, Nat.le_refl _⟩ | exact ⟨rfl, Nat.le_succ _, Nat.le_add_right _ _⟩ | split)
theorem gr_pLmul {n : Nat} {K : Nat → Prop} {T : Option Value → Prop} (ls st : List Value) (G : Hp) : GR K T G (pLmul n ls st G) := by
  unfold pLmul pL2
  repeat' (first | exact ht _ | exact ht | exact grows.refl | exact gr_oJ | exact trivial | exact ⟨rfl, Nat.le_refl _, Nat.le_refl _⟩ | exact ⟨rfl, Nat.le_succ _, Nat.le_add_right _ _⟩ | split)
theorem gr_pLand {n : Nat} {K : Nat → Prop} {T : Option Value → Prop} (ls st : List Value) (G : Hp) : GR K T G (pLand n ls st G) := by
  unfold pLand pL2
  repeat' (first | exact ht _ | exact ht | exact grows.refl | exact gr_oJ | exact trivial | exact ⟨rfl, Nat.le_refl _, Nat.le_refl _⟩ | exact ⟨rfl, Nat.le_succ _, Nat.le_add_right _ _⟩ | split)
theorem gr_pLor {n : Nat} {K : Nat → Prop} {T : Option Value → Prop} (ls st : List Value) (G : Hp) : GR K T G (pLor n ls st G) := by
  unfold pLor pL2
  repeat' (first | exact ht _ | exact ht | exact grows.refl | exact gr_oJ | exact trivial | exact ⟨rfl, Nat.le_refl _, Nat.le_refl _⟩ | exact ⟨rfl, Nat.le_succ _, Nat.le_add_right _ _⟩ | split)
theorem gr_pLI {f : Int64 → Int32 → Int64} {n : Nat} {K : Nat → Prop} {T : Option Value → Prop} (ls st : List Value) (G : Hp) : GR K T G (pLI f n ls st G) := by
  unfold pLI
  repeat' (first | exact ht _ | exact ht | exact grows.refl | exact gr_oJ | exact trivial | exact ⟨rfl, Nat.le_refl _, Nat.le_refl _⟩ | exact ⟨rfl, Nat.le_succ _, Nat.le_add_right _ _⟩ | split)
theorem gr_pLshl {n : Nat} {K : Nat → Prop} {T : Option Value → Prop} (ls st : List Value) (G : Hp) : GR K T G (pLshl n ls st G) := by
  unfold pLshl pLI
  repeat' (first | exact ht _ | exact ht | exact grows.refl | exact gr_oJ | exact trivial | exact ⟨rfl, Nat.le_refl _, Nat.le_refl _⟩ | exact ⟨rfl, Nat.le_succ _, Nat.le_add_right _ _⟩ | split)
theorem gr_pLshr {n : Nat} {K : Nat → Prop} {T : Option Value → Prop} (ls st : List Value) (G : Hp) : GR K T G (pLshr n ls st G) := by
  unfold pLshr pLI
  repeat' (first | exact ht _ | exact ht | exact grows.refl | exact gr_oJ | exact trivial | exact ⟨rfl, Nat.le_refl _, Nat.le_refl _⟩ | exact ⟨rfl, Nat.le_succ _, Nat.le_add_right _ _⟩ | split)
theorem gr_pLcmp {n : Nat} {K : Nat → Prop} {T : Option Value → Prop} (ls st : List Value) (G : Hp) : GR K T G (pLcmp n ls st G) := by
  unfold pLcmp
  repeat' (first | exact ht _ | exact ht | exact grows.refl | exact gr_oJ | exact trivial | exact ⟨rfl, Nat.le_refl _, Nat.le_refl _⟩ | exact ⟨rfl, Nat.le_succ _, Nat.le_add_right _ _⟩ | split)
theorem gr_pL2i {n : Nat} {K : Nat → Prop} {T : Option Value → Prop} (ls st : List Value) (G : Hp) : GR K T G (pL2i n ls st G) := by
  unfold pL2i
  repeat' (first | exact ht _ | exact ht | exact grows.refl | exact gr_oJ | exact trivial | exact ⟨rfl, Nat.le_refl _, Nat.le_refl _⟩ | exact ⟨rfl, Nat.le_succ _, Nat.le_add_right _ _⟩ | split)
theorem gr_pFdiv {n : Nat} {K : Nat → Prop} {T : Option Value → Prop} (ls st : List Value) (G : Hp) : GR K T G (pFdiv n ls st G) := by
  unfold pFdiv
  repeat' (first | exact ht _ | exact ht | exact grows.refl | exact gr_oJ | exact trivial | exact ⟨rfl, Nat.le_refl _, Nat.le_refl _⟩ | exact ⟨rfl, Nat.le_succ _, Nat.le_add_right _ _⟩ | split)
theorem gr_pDdiv {n : Nat} {K : Nat → Prop} {T : Option Value → Prop} (ls st : List Value) (G : Hp) : GR K T G (pDdiv n ls st G) := by
  unfold pDdiv
  repeat' (first | exact ht _ | exact ht | exact grows.refl | exact gr_oJ | exact trivial | exact ⟨rfl, Nat.le_refl _, Nat.le_refl _⟩ | exact ⟨rfl, Nat.le_succ _, Nat.le_add_right _ _⟩ | split)
theorem gr_pF2d {n : Nat} {K : Nat → Prop} {T : Option Value → Prop} (ls st : List Value) (G : Hp) : GR K T G (pF2d n ls st G) := by
  unfold pF2d
  repeat' (first | exact ht _ | exact ht | exact grows.refl | exact gr_oJ | exact trivial | exact ⟨rfl, Nat.le_refl _, Nat.le_refl _⟩ | exact ⟨rfl, Nat.le_succ _, Nat.le_add_right _ _⟩ | split)
theorem gr_pFcmp {op : CmpOp} {n : Nat} {K : Nat → Prop} {T : Option Value → Prop} (ls st : List Value) (G : Hp) : GR K T G (pFcmp op n ls st G) := by
  unfold pFcmp
  repeat' (first | exact ht _ | exact ht | exact grows.refl | exact gr_oJ | exact trivial | exact ⟨rfl, Nat.le_refl _, Nat.le_refl _⟩ | exact ⟨rfl, Nat.le_succ _, Nat.le_add_right _ _⟩ | split)
theorem gr_pDcmp {op : CmpOp} {n : Nat} {K : Nat → Prop} {T : Option Value → Prop} (ls st : List Value) (G : Hp) : GR K T G (pDcmp op n ls st G) := by
  unfold pDcmp
  repeat' (first | exact ht _ | exact ht | exact grows.refl | exact gr_oJ | exact trivial | exact ⟨rfl, Nat.le_refl _, Nat.le_refl _⟩ | exact ⟨rfl, Nat.le_succ _, Nat.le_add_right _ _⟩ | split)
theorem gr_pDup {n : Nat} {K : Nat → Prop} {T : Option Value → Prop} (ls st : List Value) (G : Hp) : GR K T G (pDup n ls st G) := by
  unfold pDup
  repeat' (first | exact ht _ | exact ht | exact grows.refl | exact gr_oJ | exact trivial | exact ⟨rfl, Nat.le_refl _, Nat.le_refl _⟩ | exact ⟨rfl, Nat.le_succ _, Nat.le_add_right _ _⟩ | split)
theorem gr_pPop {n : Nat} {K : Nat → Prop} {T : Option Value → Prop} (ls st : List Value) (G : Hp) : GR K T G (pPop n ls st G) := by
  unfold pPop
  repeat' (first | exact ht _ | exact ht | exact grows.refl | exact gr_oJ | exact trivial | exact ⟨rfl, Nat.le_refl _, Nat.le_refl _⟩ | exact ⟨rfl, Nat.le_succ _, Nat.le_add_right _ _⟩ | split)
theorem gr_pDupX1 {n : Nat} {K : Nat → Prop} {T : Option Value → Prop} (ls st : List Value) (G : Hp) : GR K T G (pDupX1 n ls st G) := by
  unfold pDupX1
  repeat' (first | exact ht _ | exact ht | exact grows.refl | exact gr_oJ | exact trivial | exact ⟨rfl, Nat.le_refl _, Nat.le_refl _⟩ | exact ⟨rfl, Nat.le_succ _, Nat.le_add_right _ _⟩ | split)
theorem gr_pDup2 {n : Nat} {K : Nat → Prop} {T : Option Value → Prop} (ls st : List Value) (G : Hp) : GR K T G (pDup2 n ls st G) := by
  unfold pDup2
  repeat' (first | exact ht _ | exact ht | exact grows.refl | exact gr_oJ | exact trivial | exact ⟨rfl, Nat.le_refl _, Nat.le_refl _⟩ | exact ⟨rfl, Nat.le_succ _, Nat.le_add_right _ _⟩ | split)
theorem gr_pGoto {t : Nat} {K : Nat → Prop} {T : Option Value → Prop} (ls st : List Value) (G : Hp) : GR K T G (pGoto t ls st G) := by
  unfold pGoto
  repeat' (first | exact ht _ | exact ht | exact grows.refl | exact gr_oJ | exact trivial | exact ⟨rfl, Nat.le_refl _, Nat.le_refl _⟩ | exact ⟨rfl, Nat.le_succ _, Nat.le_add_right _ _⟩ | split)
theorem gr_pIf0 {c : Int32 → Bool} {t n : Nat} {K : Nat → Prop} {T : Option Value → Prop} (ls st : List Value) (G : Hp) : GR K T G (pIf0 c t n ls st G) := by
  unfold pIf0
  repeat' (first | exact ht _ | exact ht | exact grows.refl | exact gr_oJ | exact trivial | exact ⟨rfl, Nat.le_refl _, Nat.le_refl _⟩ | exact ⟨rfl, Nat.le_succ _, Nat.le_add_right _ _⟩ | split)
theorem gr_pIf2 {c : Int32 → Int32 → Bool} {t n : Nat} {K : Nat → Prop} {T : Option Value → Prop} (ls st : List Value) (G : Hp) : GR K T G (pIf2 c t n ls st G) := by
  unfold pIf2
  repeat' (first | exact ht _ | exact ht | exact grows.refl | exact gr_oJ | exact trivial | exact ⟨rfl, Nat.le_refl _, Nat.le_refl _⟩ | exact ⟨rfl, Nat.le_succ _, Nat.le_add_right _ _⟩ | split)
theorem gr_pIfN {t n : Nat} {K : Nat → Prop} {T : Option Value → Prop} (ls st : List Value) (G : Hp) : GR K T G (pIfN t n ls st G) := by
  unfold pIfN
  repeat' (first | exact ht _ | exact ht | exact grows.refl | exact gr_oJ | exact trivial | exact ⟨rfl, Nat.le_refl _, Nat.le_refl _⟩ | exact ⟨rfl, Nat.le_succ _, Nat.le_add_right _ _⟩ | split)
theorem gr_pIfA {eq : Bool} {t n : Nat} {K : Nat → Prop} {T : Option Value → Prop} (ls st : List Value) (G : Hp) : GR K T G (pIfA eq t n ls st G) := by
  unfold pIfA
  repeat' (first | exact ht _ | exact ht | exact grows.refl | exact gr_oJ | exact trivial | exact ⟨rfl, Nat.le_refl _, Nat.le_refl _⟩ | exact ⟨rfl, Nat.le_succ _, Nat.le_add_right _ _⟩ | split)
theorem gr_pSw {cs : List (Int32 × Nat)} {dflt : Nat} {K : Nat → Prop} {T : Option Value → Prop} (ls st : List Value) (G : Hp) : GR K T G (pSw cs dflt ls st G) := by
  unfold pSw
  repeat' (first | exact ht _ | exact ht | exact grows.refl | exact gr_oJ | exact trivial | exact ⟨rfl, Nat.le_refl _, Nat.le_refl _⟩ | exact ⟨rfl, Nat.le_succ _, Nat.le_add_right _ _⟩ | split)
theorem gr_pRetI {K : Nat → Prop} {T : Option Value → Prop} (ht : ∀ x, T (some (.int x))) (ls st : List Value) (G : Hp) : GR K T G (pRetI  ls st G) := by
  unfold pRetI
  repeat' (first | exact ht _ | exact ht | exact grows.refl | exact gr_oJ | exact trivial | exact ⟨rfl, Nat.le_refl _, Nat.le_refl _⟩ | exact ⟨rfl, Nat.le_succ _, Nat.le_add_right _ _⟩ | split)
theorem gr_pRetZ {K : Nat → Prop} {T : Option Value → Prop} (ht : ∀ x, T (some (.int x))) (ls st : List Value) (G : Hp) : GR K T G (pRetZ  ls st G) := by
  unfold pRetZ
  repeat' (first | exact ht _ | exact ht | exact grows.refl | exact gr_oJ | exact trivial | exact ⟨rfl, Nat.le_refl _, Nat.le_refl _⟩ | exact ⟨rfl, Nat.le_succ _, Nat.le_add_right _ _⟩ | split)
theorem gr_pRetC {K : Nat → Prop} {T : Option Value → Prop} (ht : ∀ x, T (some (.int x))) (ls st : List Value) (G : Hp) : GR K T G (pRetC  ls st G) := by
  unfold pRetC
  repeat' (first | exact ht _ | exact ht | exact grows.refl | exact gr_oJ | exact trivial | exact ⟨rfl, Nat.le_refl _, Nat.le_refl _⟩ | exact ⟨rfl, Nat.le_succ _, Nat.le_add_right _ _⟩ | split)
theorem gr_pRetB {K : Nat → Prop} {T : Option Value → Prop} (ht : ∀ x, T (some (.int x))) (ls st : List Value) (G : Hp) : GR K T G (pRetB  ls st G) := by
  unfold pRetB
  repeat' (first | exact ht _ | exact ht | exact grows.refl | exact gr_oJ | exact trivial | exact ⟨rfl, Nat.le_refl _, Nat.le_refl _⟩ | exact ⟨rfl, Nat.le_succ _, Nat.le_add_right _ _⟩ | split)
theorem gr_pRetL {K : Nat → Prop} {T : Option Value → Prop} (ht : ∀ x, T (some (.long x))) (ls st : List Value) (G : Hp) : GR K T G (pRetL  ls st G) := by
  unfold pRetL
  repeat' (first | exact ht _ | exact ht | exact grows.refl | exact gr_oJ | exact trivial | exact ⟨rfl, Nat.le_refl _, Nat.le_refl _⟩ | exact ⟨rfl, Nat.le_succ _, Nat.le_add_right _ _⟩ | split)
theorem gr_pRetF {K : Nat → Prop} {T : Option Value → Prop} (ht : ∀ x, T (some (.float x))) (ls st : List Value) (G : Hp) : GR K T G (pRetF  ls st G) := by
  unfold pRetF
  repeat' (first | exact ht _ | exact ht | exact grows.refl | exact gr_oJ | exact trivial | exact ⟨rfl, Nat.le_refl _, Nat.le_refl _⟩ | exact ⟨rfl, Nat.le_succ _, Nat.le_add_right _ _⟩ | split)
theorem gr_pRetD {K : Nat → Prop} {T : Option Value → Prop} (ht : ∀ x, T (some (.double x))) (ls st : List Value) (G : Hp) : GR K T G (pRetD  ls st G) := by
  unfold pRetD
  repeat' (first | exact ht _ | exact ht | exact grows.refl | exact gr_oJ | exact trivial | exact ⟨rfl, Nat.le_refl _, Nat.le_refl _⟩ | exact ⟨rfl, Nat.le_succ _, Nat.le_add_right _ _⟩ | split)
theorem gr_pRetA {K : Nat → Prop} {T : Option Value → Prop} (ht : ∀ v, T (some v)) (ls st : List Value) (G : Hp) : GR K T G (pRetA  ls st G) := by
  unfold pRetA
  repeat' (first | exact ht _ | exact ht | exact grows.refl | exact gr_oJ | exact trivial | exact ⟨rfl, Nat.le_refl _, Nat.le_refl _⟩ | exact ⟨rfl, Nat.le_succ _, Nat.le_add_right _ _⟩ | split)
theorem gr_pRet {K : Nat → Prop} {T : Option Value → Prop} (ht : T none) (ls st : List Value) (G : Hp) : GR K T G (pRet  ls st G) := by
  unfold pRet
  repeat' (first | exact ht _ | exact ht | exact grows.refl | exact gr_oJ | exact trivial | exact ⟨rfl, Nat.le_refl _, Nat.le_refl _⟩ | exact ⟨rfl, Nat.le_succ _, Nat.le_add_right _ _⟩ | split)
theorem gr_pGet {rd : Hp → Nat → Nat → Value} {tk : List (Nat × Nat)} {n : Nat} {K : Nat → Prop} {T : Option Value → Prop} (ls st : List Value) (G : Hp) : GR K T G (pGet rd tk n ls st G) := by
  unfold pGet
  repeat' (first | exact ht _ | exact ht | exact grows.refl | exact gr_oJ | exact trivial | exact ⟨rfl, Nat.le_refl _, Nat.le_refl _⟩ | exact ⟨rfl, Nat.le_succ _, Nat.le_add_right _ _⟩ | split)
theorem gr_pGetI {tk : List (Nat × Nat)} {n : Nat} {K : Nat → Prop} {T : Option Value → Prop} (ls st : List Value) (G : Hp) : GR K T G (pGetI tk n ls st G) := by
  unfold pGetI pGet
  repeat' (first | exact ht _ | exact ht | exact grows.refl | exact gr_oJ | exact trivial | exact ⟨rfl, Nat.le_refl _, Nat.le_refl _⟩ | exact ⟨rfl, Nat.le_succ _, Nat.le_add_right _ _⟩ | split)
theorem gr_pGetJ {tk : List (Nat × Nat)} {n : Nat} {K : Nat → Prop} {T : Option Value → Prop} (ls st : List Value) (G : Hp) : GR K T G (pGetJ tk n ls st G) := by
  unfold pGetJ pGet
  repeat' (first | exact ht _ | exact ht | exact grows.refl | exact gr_oJ | exact trivial | exact ⟨rfl, Nat.le_refl _, Nat.le_refl _⟩ | exact ⟨rfl, Nat.le_succ _, Nat.le_add_right _ _⟩ | split)
theorem gr_pGetR {tk : List (Nat × Nat)} {n : Nat} {K : Nat → Prop} {T : Option Value → Prop} (ls st : List Value) (G : Hp) : GR K T G (pGetR tk n ls st G) := by
  unfold pGetR pGet
  repeat' (first | exact ht _ | exact ht | exact grows.refl | exact gr_oJ | exact trivial | exact ⟨rfl, Nat.le_refl _, Nat.le_refl _⟩ | exact ⟨rfl, Nat.le_succ _, Nat.le_add_right _ _⟩ | split)
theorem gr_pPutI {ok : Int32 → Bool} {tk : List (Nat × Nat)} {n : Nat} {K : Nat → Prop} {T : Option Value → Prop} (ls st : List Value) (G : Hp) : GR K T G (pPutI ok tk n ls st G) := by
  unfold pPutI
  repeat' (first | exact ht _ | exact ht | exact grows.refl | exact gr_oJ | exact trivial | exact ⟨rfl, Nat.le_refl _, Nat.le_refl _⟩ | exact ⟨rfl, Nat.le_succ _, Nat.le_add_right _ _⟩ | split)
theorem gr_pPutJ {tk : List (Nat × Nat)} {n : Nat} {K : Nat → Prop} {T : Option Value → Prop} (ls st : List Value) (G : Hp) : GR K T G (pPutJ tk n ls st G) := by
  unfold pPutJ
  repeat' (first | exact ht _ | exact ht | exact grows.refl | exact gr_oJ | exact trivial | exact ⟨rfl, Nat.le_refl _, Nat.le_refl _⟩ | exact ⟨rfl, Nat.le_succ _, Nat.le_add_right _ _⟩ | split)
theorem gr_pPutR {tk : List (Nat × Nat)} {n : Nat} {K : Nat → Prop} {T : Option Value → Prop} (ls st : List Value) (G : Hp) : GR K T G (pPutR tk n ls st G) := by
  unfold pPutR
  repeat' (first | exact ht _ | exact ht | exact grows.refl | exact gr_oJ | exact trivial | exact ⟨rfl, Nat.le_refl _, Nat.le_refl _⟩ | exact ⟨rfl, Nat.le_succ _, Nat.le_add_right _ _⟩ | split)
theorem gr_pIald {t n : Nat} {K : Nat → Prop} {T : Option Value → Prop} (ls st : List Value) (G : Hp) : GR K T G (pIald t n ls st G) := by
  unfold pIald
  repeat' (first | exact ht _ | exact ht | exact grows.refl | exact gr_oJ | exact trivial | exact ⟨rfl, Nat.le_refl _, Nat.le_refl _⟩ | exact ⟨rfl, Nat.le_succ _, Nat.le_add_right _ _⟩ | split)
theorem gr_pLald {n : Nat} {K : Nat → Prop} {T : Option Value → Prop} (ls st : List Value) (G : Hp) : GR K T G (pLald n ls st G) := by
  unfold pLald
  repeat' (first | exact ht _ | exact ht | exact grows.refl | exact gr_oJ | exact trivial | exact ⟨rfl, Nat.le_refl _, Nat.le_refl _⟩ | exact ⟨rfl, Nat.le_succ _, Nat.le_add_right _ _⟩ | split)
theorem gr_pDald {n : Nat} {K : Nat → Prop} {T : Option Value → Prop} (ls st : List Value) (G : Hp) : GR K T G (pDald n ls st G) := by
  unfold pDald
  repeat' (first | exact ht _ | exact ht | exact grows.refl | exact gr_oJ | exact trivial | exact ⟨rfl, Nat.le_refl _, Nat.le_refl _⟩ | exact ⟨rfl, Nat.le_succ _, Nat.le_add_right _ _⟩ | split)
theorem gr_pAald {n : Nat} {K : Nat → Prop} {T : Option Value → Prop} (ls st : List Value) (G : Hp) : GR K T G (pAald n ls st G) := by
  unfold pAald
  repeat' (first | exact ht _ | exact ht | exact grows.refl | exact gr_oJ | exact trivial | exact ⟨rfl, Nat.le_refl _, Nat.le_refl _⟩ | exact ⟨rfl, Nat.le_succ _, Nat.le_add_right _ _⟩ | split)
theorem gr_pIast {n : Nat} {K : Nat → Prop} {T : Option Value → Prop} (ls st : List Value) (G : Hp) : GR K T G (pIast n ls st G) := by
  unfold pIast
  repeat' (first | exact ht _ | exact ht | exact grows.refl | exact gr_oJ | exact trivial | exact ⟨rfl, Nat.le_refl _, Nat.le_refl _⟩ | exact ⟨rfl, Nat.le_succ _, Nat.le_add_right _ _⟩ | split)
theorem gr_pBast {n : Nat} {K : Nat → Prop} {T : Option Value → Prop} (ls st : List Value) (G : Hp) : GR K T G (pBast n ls st G) := by
  unfold pBast
  repeat' (first | exact ht _ | exact ht | exact grows.refl | exact gr_oJ | exact trivial | exact ⟨rfl, Nat.le_refl _, Nat.le_refl _⟩ | exact ⟨rfl, Nat.le_succ _, Nat.le_add_right _ _⟩ | split)
theorem gr_pLast {n : Nat} {K : Nat → Prop} {T : Option Value → Prop} (ls st : List Value) (G : Hp) : GR K T G (pLast n ls st G) := by
  unfold pLast
  repeat' (first | exact ht _ | exact ht | exact grows.refl | exact gr_oJ | exact trivial | exact ⟨rfl, Nat.le_refl _, Nat.le_refl _⟩ | exact ⟨rfl, Nat.le_succ _, Nat.le_add_right _ _⟩ | split)
theorem gr_pDast {n : Nat} {K : Nat → Prop} {T : Option Value → Prop} (ls st : List Value) (G : Hp) : GR K T G (pDast n ls st G) := by
  unfold pDast
  repeat' (first | exact ht _ | exact ht | exact grows.refl | exact gr_oJ | exact trivial | exact ⟨rfl, Nat.le_refl _, Nat.le_refl _⟩ | exact ⟨rfl, Nat.le_succ _, Nat.le_add_right _ _⟩ | split)
theorem gr_pAast {ok : Nat → Nat → Bool} {n : Nat} {K : Nat → Prop} {T : Option Value → Prop} (ls st : List Value) (G : Hp) : GR K T G (pAast ok n ls st G) := by
  unfold pAast
  repeat' (first | exact ht _ | exact ht | exact grows.refl | exact gr_oJ | exact trivial | exact ⟨rfl, Nat.le_refl _, Nat.le_refl _⟩ | exact ⟨rfl, Nat.le_succ _, Nat.le_add_right _ _⟩ | split)
theorem gr_pAlen {n : Nat} {K : Nat → Prop} {T : Option Value → Prop} (ls st : List Value) (G : Hp) : GR K T G (pAlen n ls st G) := by
  unfold pAlen
  repeat' (first | exact ht _ | exact ht | exact grows.refl | exact gr_oJ | exact trivial | exact ⟨rfl, Nat.le_refl _, Nat.le_refl _⟩ | exact ⟨rfl, Nat.le_succ _, Nat.le_add_right _ _⟩ | split)
theorem gr_pNew {t k n : Nat} {K : Nat → Prop} {T : Option Value → Prop} (ls st : List Value) (G : Hp) : GR K T G (pNew t k n ls st G) := by
  unfold pNew
  repeat' (first | exact ht _ | exact ht | exact grows.refl | exact gr_oJ | exact trivial | exact ⟨rfl, Nat.le_refl _, Nat.le_refl _⟩ | exact ⟨rfl, Nat.le_succ _, Nat.le_add_right _ _⟩ | split)
theorem gr_pNewa {t n : Nat} {K : Nat → Prop} {T : Option Value → Prop} (ls st : List Value) (G : Hp) : GR K T G (pNewa t n ls st G) := by
  unfold pNewa
  repeat' (first | exact ht _ | exact ht | exact grows.refl | exact gr_oJ | exact trivial | exact ⟨rfl, Nat.le_refl _, Nat.le_refl _⟩ | exact ⟨rfl, Nat.le_succ _, Nat.le_add_right _ _⟩ | split)
theorem gr_pCast {ts : List Nat} {n : Nat} {K : Nat → Prop} {T : Option Value → Prop} (ls st : List Value) (G : Hp) : GR K T G (pCast ts n ls st G) := by
  unfold pCast
  repeat' (first | exact ht _ | exact ht | exact grows.refl | exact gr_oJ | exact trivial | exact ⟨rfl, Nat.le_refl _, Nat.le_refl _⟩ | exact ⟨rfl, Nat.le_succ _, Nat.le_add_right _ _⟩ | split)
theorem gr_pInst {ys ns : List Nat} {n : Nat} {K : Nat → Prop} {T : Option Value → Prop} (ls st : List Value) (G : Hp) : GR K T G (pInst ys ns n ls st G) := by
  unfold pInst
  repeat' (first | exact ht _ | exact ht | exact grows.refl | exact gr_oJ | exact trivial | exact ⟨rfl, Nat.le_refl _, Nat.le_refl _⟩ | exact ⟨rfl, Nat.le_succ _, Nat.le_add_right _ _⟩ | split)
theorem gr_pObjInit {n : Nat} {K : Nat → Prop} {T : Option Value → Prop} (ls st : List Value) (G : Hp) : GR K T G (pObjInit n ls st G) := by
  unfold pObjInit
  repeat' (first | exact ht _ | exact ht | exact grows.refl | exact gr_oJ | exact trivial | exact ⟨rfl, Nat.le_refl _, Nat.le_refl _⟩ | exact ⟨rfl, Nat.le_succ _, Nat.le_add_right _ _⟩ | split)
theorem gr_pMin {n : Nat} {K : Nat → Prop} {T : Option Value → Prop} (ls st : List Value) (G : Hp) : GR K T G (pMin n ls st G) := by
  unfold pMin
  repeat' (first | exact ht _ | exact ht | exact grows.refl | exact gr_oJ | exact trivial | exact ⟨rfl, Nat.le_refl _, Nat.le_refl _⟩ | exact ⟨rfl, Nat.le_succ _, Nat.le_add_right _ _⟩ | split)
theorem gr_pMax {n : Nat} {K : Nat → Prop} {T : Option Value → Prop} (ls st : List Value) (G : Hp) : GR K T G (pMax n ls st G) := by
  unfold pMax
  repeat' (first | exact ht _ | exact ht | exact grows.refl | exact gr_oJ | exact trivial | exact ⟨rfl, Nat.le_refl _, Nat.le_refl _⟩ | exact ⟨rfl, Nat.le_succ _, Nat.le_add_right _ _⟩ | split)
theorem gr_pSt {i n : Nat} {K : Nat → Prop} {T : Option Value → Prop} (ls st : List Value) (G : Hp) : GR K T G (pSt i n ls st G) := by
  unfold pSt
  repeat' (first | exact ht _ | exact ht | exact grows.refl | exact gr_oJ | exact trivial | exact ⟨rfl, Nat.le_refl _, Nat.le_refl _⟩ | exact ⟨rfl, Nat.le_succ _, Nat.le_add_right _ _⟩ | split)
theorem gr_pStQ {i n : Nat} {K : Nat → Prop} {T : Option Value → Prop} (ls st : List Value) (G : Hp) : GR K T G (pStQ i n ls st G) := by
  unfold pStQ
  repeat' (first | exact ht _ | exact ht | exact grows.refl | exact gr_oJ | exact trivial | exact ⟨rfl, Nat.le_refl _, Nat.le_refl _⟩ | exact ⟨rfl, Nat.le_succ _, Nat.le_add_right _ _⟩ | split)
theorem gr_pThrow0 {t : Nat} {K : Nat → Prop} {T : Option Value → Prop} (ls st : List Value) (G : Hp) : GR K T G (pThrow0 t ls st G) := by
  unfold pThrow0
  repeat' (first | exact ht _ | exact ht | exact grows.refl | exact gr_oJ | exact trivial | exact ⟨rfl, Nat.le_refl _, Nat.le_refl _⟩ | exact ⟨rfl, Nat.le_succ _, Nat.le_add_right _ _⟩ | split)
theorem gr_pThrow {K : Nat → Prop} {T : Option Value → Prop} (ls st : List Value) (G : Hp) : GR K T G (pThrow  ls st G) := by
  unfold pThrow
  repeat' (first | exact ht _ | exact ht | exact grows.refl | exact gr_oJ | exact trivial | exact ⟨rfl, Nat.le_refl _, Nat.le_refl _⟩ | exact ⟨rfl, Nat.le_succ _, Nat.le_add_right _ _⟩ | split)
theorem gr_pCopy {ok : Nat → Nat → Bool} {n : Nat} {K : Nat → Prop} {T : Option Value → Prop} (ls st : List Value) (G : Hp) : GR K T G (pCopy ok n ls st G) := by
  unfold pCopy
  repeat' (first | exact ht _ | exact ht | exact grows.refl | exact gr_oJ | exact trivial | exact ⟨rfl, Nat.le_refl _, Nat.le_refl _⟩ | exact ⟨rfl, Nat.le_succ _, Nat.le_add_right _ _⟩ | split)
theorem gr_pClone {t n : Nat} {K : Nat → Prop} {T : Option Value → Prop} (ls st : List Value) (G : Hp) : GR K T G (pClone t n ls st G) := by
  unfold pClone
  repeat' (first | exact ht _ | exact ht | exact grows.refl | exact gr_oJ | exact trivial | exact ⟨rfl, Nat.le_refl _, Nat.le_refl _⟩ | exact ⟨rfl, Nat.le_succ _, Nat.le_add_right _ _⟩ | split)
theorem gr_pLamC {i n : Nat} {K : Nat → Prop} {T : Option Value → Prop} (ls st : List Value) (G : Hp) : GR K T G (pLamC i n ls st G) := by
  unfold pLamC
  repeat' (first | exact ht _ | exact ht | exact grows.refl | exact gr_oJ | exact trivial | exact ⟨rfl, Nat.le_refl _, Nat.le_refl _⟩ | exact ⟨rfl, Nat.le_succ _, Nat.le_add_right _ _⟩ | split)
theorem gr_pLamM {t n : Nat} {K : Nat → Prop} {T : Option Value → Prop} (ls st : List Value) (G : Hp) : GR K T G (pLamM t n ls st G) := by
  unfold pLamM
  repeat' (first | exact ht _ | exact ht | exact grows.refl | exact gr_oJ | exact trivial | exact ⟨rfl, Nat.le_refl _, Nat.le_refl _⟩ | exact ⟨rfl, Nat.le_succ _, Nat.le_add_right _ _⟩ | split)
theorem gr_pLamN {t n : Nat} {K : Nat → Prop} {T : Option Value → Prop} (ls st : List Value) (G : Hp) : GR K T G (pLamN t n ls st G) := by
  unfold pLamN
  repeat' (first | exact ht _ | exact ht | exact grows.refl | exact gr_oJ | exact trivial | exact ⟨rfl, Nat.le_refl _, Nat.le_refl _⟩ | exact ⟨rfl, Nat.le_succ _, Nat.le_add_right _ _⟩ | split)
theorem gr_pGetC {t i n : Nat} {K : Nat → Prop} {T : Option Value → Prop} (ls st : List Value) (G : Hp) : GR K T G (pGetC t i n ls st G) := by
  unfold pGetC
  repeat' (first | exact ht _ | exact ht | exact grows.refl | exact gr_oJ | exact trivial | exact ⟨rfl, Nat.le_refl _, Nat.le_refl _⟩ | exact ⟨rfl, Nat.le_succ _, Nat.le_add_right _ _⟩ | split)
theorem gr_pCacheLd {j n : Nat} {K : Nat → Prop} {T : Option Value → Prop} (ls st : List Value) (G : Hp) : GR K T G (pCacheLd j n ls st G) := by
  unfold pCacheLd
  repeat' (first | exact ht _ | exact ht | exact grows.refl | exact gr_oJ | exact trivial | exact ⟨rfl, Nat.le_refl _, Nat.le_refl _⟩ | exact ⟨rfl, Nat.le_succ _, Nat.le_add_right _ _⟩ | split)
theorem gr_pCallS {K : Nat → Prop} {T : Option Value → Prop} {y' k n : Nat} (hk : K y') (ls st : List Value) (G : Hp) : GR K T G (pCallS y' k n ls st G) := by
  unfold pCallS
  split
  · exact hk
  · exact trivial
theorem gr_pCallI {K : Nat → Prop} {T : Option Value → Prop} {y' k n : Nat} (hk : K y') (ls st : List Value) (G : Hp) : GR K T G (pCallI y' k n ls st G) := by
  unfold pCallI
  split
  · split
    · exact hk
    · exact trivial
  · exact trivial
theorem gr_pCallV {K : Nat → Prop} {T : Option Value → Prop} {tk : List (Nat × Nat)} {k n : Nat} (hk : ∀ q ∈ tk, K q.2) (ls st : List Value) (G : Hp) : GR K T G (pCallV tk k n ls st G) := by
  unfold pCallV
  split
  · split
    · split
      · rename_i hz
        exact fk_all (P := fun _ z => K z) hk hz
      · exact trivial
    · exact trivial
  · exact trivial
theorem gr_pCallL {K : Nat → Prop} {T : Option Value → Prop} {tk : List (Nat × Nat)} {n : Nat} (hk : ∀ q ∈ tk, K q.2) (ls st : List Value) (G : Hp) : GR K T G (pCallL tk n ls st G) := by
  unfold pCallL
  split
  · split
    · split
      · rename_i hz
        exact fk_all (P := fun _ z => K z) hk hz
      · exact trivial
    · exact trivial
  · exact trivial
section IOKS
variable {P : Prog} {yn : Nat → MethodName} {yb : Nat → ByteArray} {yr : Nat → Option FieldType} {yh : Nat → List (Nat × Nat × Nat × Nat)} {l : Launch} {y pc : Nat} {cc : ByteArray}
section CXS
variable {p : Program} {e : Env} {R : Room} {s : State} {m : MethodId} {args : Array Value} {meth : Method} {c : Code} {d : Nat}
theorem CX.ret (h : CX P yn yb yr yh p l e R s m args meth c y d) : meth.sig.returnType = yr y := h.2.2.2.1
theorem CX.own (h : CX P yn yb yr yh p l e R s m args meth c y d) {own : String} (ho : (yn y).cls = own) : s.vm.findClass own = some m.cls := ho ▸ h.2.2.2.2.1
theorem CX.ws (h : CX P yn yb yr yh p l e R s m args meth c y d) : ∀ w ∈ lw_all, w.before args s = true := h.2.2.2.2.2.1
theorem CX.tk (h : CX P yn yb yr yh p l e R s m args meth c y d) : TK s := h.2.2.2.2.2.2.1
theorem CX.tab (h : CX P yn yb yr yh p l e R s m args meth c y d) : c.exceptionTable.toList = tableOf (yh y) := h.2.2.2.2.2.2.2.1
theorem CX.lk (h : CX P yn yb yr yh p l e R s m args meth c y d) : meth.locks = false := h.2.2.2.2.2.2.2.2.1
theorem CX.nm (h : CX P yn yb yr yh p l e R s m args meth c y d) : meth.name = (yn y).name := h.2.2.2.2.2.2.2.2.2.1
theorem CX.tr (h : CX P yn yb yr yh p l e R s m args meth c y d) : l.stackTraces = false := h.2.2.2.2.2.2.2.2.2.2.1
theorem CX.fr (h : CX P yn yb yr yh p l e R s m args meth c y d) : 2 * d + 20 ≤ R.frames := h.2.2.2.2.2.2.2.2.2.2.2.1
theorem CX.lo (h : CX P yn yb yr yh p l e R s m args meth c y d) : 260 * d + 4000 ≤ R.locals := h.2.2.2.2.2.2.2.2.2.2.2.2.1
theorem CX.named (h : CX P yn yb yr yh p l e R s m args meth c y d) : s.methodNamed? (yn y) = some m := h.2.2.2.2.2.2.2.2.2.2.2.2.2
end CXS
theorem i_iload {i : Nat} (hb : yb y = cc) (hg : decode cc pc = .ok (.iload i, 2)) : IOK P yn yb yr yh l y pc (pIload i (pc + 2)) := ⟨gr_pIload, fun p e R s m args below meth c Q x0 s0 d G ls st h => k_iload  h.1 (h.2.1.trans hb) hg⟩
theorem i_iload_n {i : Nat} {k : Fin 4} (hk : (k : Nat) = i) (hb : yb y = cc) (hg : decode cc pc = .ok (.iload_n k, 1)) : IOK P yn yb yr yh l y pc (pIload i (pc + 1)) := ⟨gr_pIload, fun p e R s m args below meth c Q x0 s0 d G ls st h => k_iload_n hk h.1 (h.2.1.trans hb) hg⟩
theorem i_lload {i : Nat} (hb : yb y = cc) (hg : decode cc pc = .ok (.lload i, 2)) : IOK P yn yb yr yh l y pc (pLload i (pc + 2)) := ⟨gr_pLload, fun p e R s m args below meth c Q x0 s0 d G ls st h => k_lload  h.1 (h.2.1.trans hb) hg⟩
theorem i_lload_n {i : Nat} {k : Fin 4} (hk : (k : Nat) = i) (hb : yb y = cc) (hg : decode cc pc = .ok (.lload_n k, 1)) : IOK P yn yb yr yh l y pc (pLload i (pc + 1)) := ⟨gr_pLload, fun p e R s m args below meth c Q x0 s0 d G ls st h => k_lload_n hk h.1 (h.2.1.trans hb) hg⟩
theorem i_fload {i : Nat} (hb : yb y = cc) (hg : decode cc pc = .ok (.fload i, 2)) : IOK P yn yb yr yh l y pc (pFload i (pc + 2)) := ⟨gr_pFload, fun p e R s m args below meth c Q x0 s0 d G ls st h => k_fload  h.1 (h.2.1.trans hb) hg⟩
theorem i_fload_n {i : Nat} {k : Fin 4} (hk : (k : Nat) = i) (hb : yb y = cc) (hg : decode cc pc = .ok (.fload_n k, 1)) : IOK P yn yb yr yh l y pc (pFload i (pc + 1)) := ⟨gr_pFload, fun p e R s m args below meth c Q x0 s0 d G ls st h => k_fload_n hk h.1 (h.2.1.trans hb) hg⟩
theorem i_dload {i : Nat} (hb : yb y = cc) (hg : decode cc pc = .ok (.dload i, 2)) : IOK P yn yb yr yh l y pc (pDload i (pc + 2)) := ⟨gr_pDload, fun p e R s m args below meth c Q x0 s0 d G ls st h => k_dload  h.1 (h.2.1.trans hb) hg⟩
theorem i_dload_n {i : Nat} {k : Fin 4} (hk : (k : Nat) = i) (hb : yb y = cc) (hg : decode cc pc = .ok (.dload_n k, 1)) : IOK P yn yb yr yh l y pc (pDload i (pc + 1)) := ⟨gr_pDload, fun p e R s m args below meth c Q x0 s0 d G ls st h => k_dload_n hk h.1 (h.2.1.trans hb) hg⟩
theorem i_aload {i : Nat} (hb : yb y = cc) (hg : decode cc pc = .ok (.aload i, 2)) : IOK P yn yb yr yh l y pc (pAload i (pc + 2)) := ⟨gr_pAload, fun p e R s m args below meth c Q x0 s0 d G ls st h => k_aload  h.1 (h.2.1.trans hb) hg⟩
theorem i_aload_n {i : Nat} {k : Fin 4} (hk : (k : Nat) = i) (hb : yb y = cc) (hg : decode cc pc = .ok (.aload_n k, 1)) : IOK P yn yb yr yh l y pc (pAload i (pc + 1)) := ⟨gr_pAload, fun p e R s m args below meth c Q x0 s0 d G ls st h => k_aload_n hk h.1 (h.2.1.trans hb) hg⟩
theorem i_istore {i : Nat} (hb : yb y = cc) (hg : decode cc pc = .ok (.istore i, 2)) : IOK P yn yb yr yh l y pc (pIstore i (pc + 2)) := ⟨gr_pIstore, fun p e R s m args below meth c Q x0 s0 d G ls st h => k_istore  h.1 (h.2.1.trans hb) hg⟩
theorem i_istore_n {i : Nat} {k : Fin 4} (hk : (k : Nat) = i) (hb : yb y = cc) (hg : decode cc pc = .ok (.istore_n k, 1)) : IOK P yn yb yr yh l y pc (pIstore i (pc + 1)) := ⟨gr_pIstore, fun p e R s m args below meth c Q x0 s0 d G ls st h => k_istore_n hk h.1 (h.2.1.trans hb) hg⟩
theorem i_fstore {i : Nat} (hb : yb y = cc) (hg : decode cc pc = .ok (.fstore i, 2)) : IOK P yn yb yr yh l y pc (pFstore i (pc + 2)) := ⟨gr_pFstore, fun p e R s m args below meth c Q x0 s0 d G ls st h => k_fstore  h.1 (h.2.1.trans hb) hg⟩
theorem i_fstore_n {i : Nat} {k : Fin 4} (hk : (k : Nat) = i) (hb : yb y = cc) (hg : decode cc pc = .ok (.fstore_n k, 1)) : IOK P yn yb yr yh l y pc (pFstore i (pc + 1)) := ⟨gr_pFstore, fun p e R s m args below meth c Q x0 s0 d G ls st h => k_fstore_n hk h.1 (h.2.1.trans hb) hg⟩
theorem i_lstore {i : Nat} (hb : yb y = cc) (hg : decode cc pc = .ok (.lstore i, 2)) : IOK P yn yb yr yh l y pc (pLstore i (pc + 2)) := ⟨gr_pLstore, fun p e R s m args below meth c Q x0 s0 d G ls st h => k_lstore  h.1 (h.2.1.trans hb) hg⟩
theorem i_lstore_n {i : Nat} {k : Fin 4} (hk : (k : Nat) = i) (hb : yb y = cc) (hg : decode cc pc = .ok (.lstore_n k, 1)) : IOK P yn yb yr yh l y pc (pLstore i (pc + 1)) := ⟨gr_pLstore, fun p e R s m args below meth c Q x0 s0 d G ls st h => k_lstore_n hk h.1 (h.2.1.trans hb) hg⟩
theorem i_dstore {i : Nat} (hb : yb y = cc) (hg : decode cc pc = .ok (.dstore i, 2)) : IOK P yn yb yr yh l y pc (pDstore i (pc + 2)) := ⟨gr_pDstore, fun p e R s m args below meth c Q x0 s0 d G ls st h => k_dstore  h.1 (h.2.1.trans hb) hg⟩
theorem i_dstore_n {i : Nat} {k : Fin 4} (hk : (k : Nat) = i) (hb : yb y = cc) (hg : decode cc pc = .ok (.dstore_n k, 1)) : IOK P yn yb yr yh l y pc (pDstore i (pc + 1)) := ⟨gr_pDstore, fun p e R s m args below meth c Q x0 s0 d G ls st h => k_dstore_n hk h.1 (h.2.1.trans hb) hg⟩
theorem i_astore {i : Nat} (hb : yb y = cc) (hg : decode cc pc = .ok (.astore i, 2)) : IOK P yn yb yr yh l y pc (pAstore i (pc + 2)) := ⟨gr_pAstore, fun p e R s m args below meth c Q x0 s0 d G ls st h => k_astore  h.1 (h.2.1.trans hb) hg⟩
theorem i_astore_n {i : Nat} {k : Fin 4} (hk : (k : Nat) = i) (hb : yb y = cc) (hg : decode cc pc = .ok (.astore_n k, 1)) : IOK P yn yb yr yh l y pc (pAstore i (pc + 1)) := ⟨gr_pAstore, fun p e R s m args below meth c Q x0 s0 d G ls st h => k_astore_n hk h.1 (h.2.1.trans hb) hg⟩
theorem i_iinc {i : Nat} {n : Int} {v : Int32} (hv : Int32.ofInt n = v) (hb : yb y = cc) (hg : decode cc pc = .ok (.iinc i n, 3)) : IOK P yn yb yr yh l y pc (pIinc i v (pc + 3)) := ⟨gr_pIinc, fun p e R s m args below meth c Q x0 s0 d G ls st h => k_iinc hv h.1 (h.2.1.trans hb) hg⟩
theorem i_iconst {n : Int} {v : Int32} (hv : Int32.ofInt n = v) (hb : yb y = cc) (hg : decode cc pc = .ok (.iconst n, 1)) : IOK P yn yb yr yh l y pc (pK (.int v) (pc + 1)) := ⟨gr_pK, fun p e R s m args below meth c Q x0 s0 d G ls st h => k_iconst hv h.1 (h.2.1.trans hb) hg⟩
theorem i_bipush {n : Int} {v : Int32} (hv : (Int8.ofInt n).toInt32 = v) (hb : yb y = cc) (hg : decode cc pc = .ok (.bipush n, 2)) : IOK P yn yb yr yh l y pc (pK (.int v) (pc + 2)) := ⟨gr_pK, fun p e R s m args below meth c Q x0 s0 d G ls st h => k_bipush hv h.1 (h.2.1.trans hb) hg⟩
theorem i_sipush {n : Int} {v : Int32} (hv : (Int16.ofInt n).toInt32 = v) (hb : yb y = cc) (hg : decode cc pc = .ok (.sipush n, 3)) : IOK P yn yb yr yh l y pc (pK (.int v) (pc + 3)) := ⟨gr_pK, fun p e R s m args below meth c Q x0 s0 d G ls st h => k_sipush hv h.1 (h.2.1.trans hb) hg⟩
theorem i_lconst {n : Fin 2} {v : Int64} (hv : Int64.ofNat (n : Nat) = v) (hb : yb y = cc) (hg : decode cc pc = .ok (.lconst n, 1)) : IOK P yn yb yr yh l y pc (pK (.long v) (pc + 1)) := ⟨gr_pK, fun p e R s m args below meth c Q x0 s0 d G ls st h => k_lconst hv h.1 (h.2.1.trans hb) hg⟩
theorem i_dconst0  (hb : yb y = cc) (hg : decode cc pc = .ok (.dconst 0, 1)) : IOK P yn yb yr yh l y pc (pK (.double FP.dconst0) (pc + 1)) := ⟨gr_pK, fun p e R s m args below meth c Q x0 s0 d G ls st h => k_dconst0  h.1 (h.2.1.trans hb) hg⟩
theorem i_fconst0  (hb : yb y = cc) (hg : decode cc pc = .ok (.fconst 0, 1)) : IOK P yn yb yr yh l y pc (pK (.float FP.fconst0) (pc + 1)) := ⟨gr_pK, fun p e R s m args below meth c Q x0 s0 d G ls st h => k_fconst0  h.1 (h.2.1.trans hb) hg⟩
theorem i_null  (hb : yb y = cc) (hg : decode cc pc = .ok (.aconst_null, 1)) : IOK P yn yb yr yh l y pc (pK .null (pc + 1)) := ⟨gr_pK, fun p e R s m args below meth c Q x0 s0 d G ls st h => k_null  h.1 (h.2.1.trans hb) hg⟩
theorem i_iadd  (hb : yb y = cc) (hg : decode cc pc = .ok (.iadd, 1)) : IOK P yn yb yr yh l y pc (pIadd (pc + 1)) := ⟨gr_pIadd, fun p e R s m args below meth c Q x0 s0 d G ls st h => k_iadd  h.1 (h.2.1.trans hb) hg⟩
theorem i_isub  (hb : yb y = cc) (hg : decode cc pc = .ok (.isub, 1)) : IOK P yn yb yr yh l y pc (pIsub (pc + 1)) := ⟨gr_pIsub, fun p e R s m args below meth c Q x0 s0 d G ls st h => k_isub  h.1 (h.2.1.trans hb) hg⟩
theorem i_imul  (hb : yb y = cc) (hg : decode cc pc = .ok (.imul, 1)) : IOK P yn yb yr yh l y pc (pImul (pc + 1)) := ⟨gr_pImul, fun p e R s m args below meth c Q x0 s0 d G ls st h => k_imul  h.1 (h.2.1.trans hb) hg⟩
theorem i_iand  (hb : yb y = cc) (hg : decode cc pc = .ok (.iand, 1)) : IOK P yn yb yr yh l y pc (pIand (pc + 1)) := ⟨gr_pIand, fun p e R s m args below meth c Q x0 s0 d G ls st h => k_iand  h.1 (h.2.1.trans hb) hg⟩
theorem i_ior  (hb : yb y = cc) (hg : decode cc pc = .ok (.ior, 1)) : IOK P yn yb yr yh l y pc (pIor (pc + 1)) := ⟨gr_pIor, fun p e R s m args below meth c Q x0 s0 d G ls st h => k_ior  h.1 (h.2.1.trans hb) hg⟩
theorem i_ixor  (hb : yb y = cc) (hg : decode cc pc = .ok (.ixor, 1)) : IOK P yn yb yr yh l y pc (pIxor (pc + 1)) := ⟨gr_pIxor, fun p e R s m args below meth c Q x0 s0 d G ls st h => k_ixor  h.1 (h.2.1.trans hb) hg⟩
theorem i_ishl  (hb : yb y = cc) (hg : decode cc pc = .ok (.ishl, 1)) : IOK P yn yb yr yh l y pc (pIshl (pc + 1)) := ⟨gr_pIshl, fun p e R s m args below meth c Q x0 s0 d G ls st h => k_ishl  h.1 (h.2.1.trans hb) hg⟩
theorem i_ishr  (hb : yb y = cc) (hg : decode cc pc = .ok (.ishr, 1)) : IOK P yn yb yr yh l y pc (pIshr (pc + 1)) := ⟨gr_pIshr, fun p e R s m args below meth c Q x0 s0 d G ls st h => k_ishr  h.1 (h.2.1.trans hb) hg⟩
theorem i_iushr  (hb : yb y = cc) (hg : decode cc pc = .ok (.iushr, 1)) : IOK P yn yb yr yh l y pc (pIushr (pc + 1)) := ⟨gr_pIushr, fun p e R s m args below meth c Q x0 s0 d G ls st h => k_iushr  h.1 (h.2.1.trans hb) hg⟩
theorem i_idiv  (hb : yb y = cc) (hg : decode cc pc = .ok (.idiv, 1)) : IOK P yn yb yr yh l y pc (pIdiv (pc + 1)) := ⟨gr_pIdiv, fun p e R s m args below meth c Q x0 s0 d G ls st h => k_idiv  h.1 (h.2.1.trans hb) hg⟩
theorem i_irem  (hb : yb y = cc) (hg : decode cc pc = .ok (.irem, 1)) : IOK P yn yb yr yh l y pc (pIrem (pc + 1)) := ⟨gr_pIrem, fun p e R s m args below meth c Q x0 s0 d G ls st h => k_irem  h.1 (h.2.1.trans hb) hg⟩
theorem i_ineg  (hb : yb y = cc) (hg : decode cc pc = .ok (.ineg, 1)) : IOK P yn yb yr yh l y pc (pIneg (pc + 1)) := ⟨gr_pIneg, fun p e R s m args below meth c Q x0 s0 d G ls st h => k_ineg  h.1 (h.2.1.trans hb) hg⟩
theorem i_i2l  (hb : yb y = cc) (hg : decode cc pc = .ok (.i2l, 1)) : IOK P yn yb yr yh l y pc (pI2l (pc + 1)) := ⟨gr_pI2l, fun p e R s m args below meth c Q x0 s0 d G ls st h => k_i2l  h.1 (h.2.1.trans hb) hg⟩
theorem i_i2b  (hb : yb y = cc) (hg : decode cc pc = .ok (.i2b, 1)) : IOK P yn yb yr yh l y pc (pI2b (pc + 1)) := ⟨gr_pI2b, fun p e R s m args below meth c Q x0 s0 d G ls st h => k_i2b  h.1 (h.2.1.trans hb) hg⟩
theorem i_i2c  (hb : yb y = cc) (hg : decode cc pc = .ok (.i2c, 1)) : IOK P yn yb yr yh l y pc (pI2c (pc + 1)) := ⟨gr_pI2c, fun p e R s m args below meth c Q x0 s0 d G ls st h => k_i2c  h.1 (h.2.1.trans hb) hg⟩
theorem i_i2f  (hb : yb y = cc) (hg : decode cc pc = .ok (.i2f, 1)) : IOK P yn yb yr yh l y pc (pI2f (pc + 1)) := ⟨gr_pI2f, fun p e R s m args below meth c Q x0 s0 d G ls st h => k_i2f  h.1 (h.2.1.trans hb) hg⟩
theorem i_i2d  (hb : yb y = cc) (hg : decode cc pc = .ok (.i2d, 1)) : IOK P yn yb yr yh l y pc (pI2d (pc + 1)) := ⟨gr_pI2d, fun p e R s m args below meth c Q x0 s0 d G ls st h => k_i2d  h.1 (h.2.1.trans hb) hg⟩
theorem i_ladd  (hb : yb y = cc) (hg : decode cc pc = .ok (.ladd, 1)) : IOK P yn yb yr yh l y pc (pLadd (pc + 1)) := ⟨gr_pLadd, fun p e R s m args below meth c Q x0 s0 d G ls st h => k_ladd  h.1 (h.2.1.trans hb) hg⟩
theorem i_lsub  (hb : yb y = cc) (hg : decode cc pc = .ok (.lsub, 1)) : IOK P yn yb yr yh l y pc (pLsub (pc + 1)) := ⟨gr_pLsub, fun p e R s m args below meth c Q x0 s0 d G ls st h => k_lsub  h.1 (h.2.1.trans hb) hg⟩
theorem i_lmul  (hb : yb y = cc) (hg : decode cc pc = .ok (.lmul, 1)) : IOK P yn yb yr yh l y pc (pLmul (pc + 1)) := ⟨gr_pLmul, fun p e R s m args below meth c Q x0 s0 d G ls st h => k_lmul  h.1 (h.2.1.trans hb) hg⟩
theorem i_land  (hb : yb y = cc) (hg : decode cc pc = .ok (.land, 1)) : IOK P yn yb yr yh l y pc (pLand (pc + 1)) := ⟨gr_pLand, fun p e R s m args below meth c Q x0 s0 d G ls st h => k_land  h.1 (h.2.1.trans hb) hg⟩
theorem i_lor  (hb : yb y = cc) (hg : decode cc pc = .ok (.lor, 1)) : IOK P yn yb yr yh l y pc (pLor (pc + 1)) := ⟨gr_pLor, fun p e R s m args below meth c Q x0 s0 d G ls st h => k_lor  h.1 (h.2.1.trans hb) hg⟩
theorem i_lshl  (hb : yb y = cc) (hg : decode cc pc = .ok (.lshl, 1)) : IOK P yn yb yr yh l y pc (pLshl (pc + 1)) := ⟨gr_pLshl, fun p e R s m args below meth c Q x0 s0 d G ls st h => k_lshl  h.1 (h.2.1.trans hb) hg⟩
theorem i_lshr  (hb : yb y = cc) (hg : decode cc pc = .ok (.lshr, 1)) : IOK P yn yb yr yh l y pc (pLshr (pc + 1)) := ⟨gr_pLshr, fun p e R s m args below meth c Q x0 s0 d G ls st h => k_lshr  h.1 (h.2.1.trans hb) hg⟩
theorem i_lcmp  (hb : yb y = cc) (hg : decode cc pc = .ok (.lcmp, 1)) : IOK P yn yb yr yh l y pc (pLcmp (pc + 1)) := ⟨gr_pLcmp, fun p e R s m args below meth c Q x0 s0 d G ls st h => k_lcmp  h.1 (h.2.1.trans hb) hg⟩
theorem i_l2i  (hb : yb y = cc) (hg : decode cc pc = .ok (.l2i, 1)) : IOK P yn yb yr yh l y pc (pL2i (pc + 1)) := ⟨gr_pL2i, fun p e R s m args below meth c Q x0 s0 d G ls st h => k_l2i  h.1 (h.2.1.trans hb) hg⟩
theorem i_fdiv  (hb : yb y = cc) (hg : decode cc pc = .ok (.fdiv, 1)) : IOK P yn yb yr yh l y pc (pFdiv (pc + 1)) := ⟨gr_pFdiv, fun p e R s m args below meth c Q x0 s0 d G ls st h => k_fdiv  h.1 (h.2.1.trans hb) hg⟩
theorem i_ddiv  (hb : yb y = cc) (hg : decode cc pc = .ok (.ddiv, 1)) : IOK P yn yb yr yh l y pc (pDdiv (pc + 1)) := ⟨gr_pDdiv, fun p e R s m args below meth c Q x0 s0 d G ls st h => k_ddiv  h.1 (h.2.1.trans hb) hg⟩
theorem i_f2d  (hb : yb y = cc) (hg : decode cc pc = .ok (.f2d, 1)) : IOK P yn yb yr yh l y pc (pF2d (pc + 1)) := ⟨gr_pF2d, fun p e R s m args below meth c Q x0 s0 d G ls st h => k_f2d  h.1 (h.2.1.trans hb) hg⟩
theorem i_fcmp {op : CmpOp} (hb : yb y = cc) (hg : decode cc pc = .ok (.fcmp op, 1)) : IOK P yn yb yr yh l y pc (pFcmp op (pc + 1)) := ⟨gr_pFcmp, fun p e R s m args below meth c Q x0 s0 d G ls st h => k_fcmp  h.1 (h.2.1.trans hb) hg⟩
theorem i_dcmp {op : CmpOp} (hb : yb y = cc) (hg : decode cc pc = .ok (.dcmp op, 1)) : IOK P yn yb yr yh l y pc (pDcmp op (pc + 1)) := ⟨gr_pDcmp, fun p e R s m args below meth c Q x0 s0 d G ls st h => k_dcmp  h.1 (h.2.1.trans hb) hg⟩
theorem i_dup  (hb : yb y = cc) (hg : decode cc pc = .ok (.dup, 1)) : IOK P yn yb yr yh l y pc (pDup (pc + 1)) := ⟨gr_pDup, fun p e R s m args below meth c Q x0 s0 d G ls st h => k_dup  h.1 (h.2.1.trans hb) hg⟩
theorem i_pop  (hb : yb y = cc) (hg : decode cc pc = .ok (.pop, 1)) : IOK P yn yb yr yh l y pc (pPop (pc + 1)) := ⟨gr_pPop, fun p e R s m args below meth c Q x0 s0 d G ls st h => k_pop  h.1 (h.2.1.trans hb) hg⟩
theorem i_dup_x1  (hb : yb y = cc) (hg : decode cc pc = .ok (.dup_x1, 1)) : IOK P yn yb yr yh l y pc (pDupX1 (pc + 1)) := ⟨gr_pDupX1, fun p e R s m args below meth c Q x0 s0 d G ls st h => k_dup_x1  h.1 (h.2.1.trans hb) hg⟩
theorem i_dup2  (hb : yb y = cc) (hg : decode cc pc = .ok (.dup2, 1)) : IOK P yn yb yr yh l y pc (pDup2 (pc + 1)) := ⟨gr_pDup2, fun p e R s m args below meth c Q x0 s0 d G ls st h => k_dup2  h.1 (h.2.1.trans hb) hg⟩
theorem i_goto {off : Int} {t : Nat} (ht : (pc : Int) + off = (t : Int)) (hb : yb y = cc) (hg : decode cc pc = .ok (.goto off, 3)) : IOK P yn yb yr yh l y pc (pGoto t) := ⟨gr_pGoto, fun p e R s m args below meth c Q x0 s0 d G ls st h => k_goto ht h.1 (h.2.1.trans hb) hg⟩
theorem i_if_eq {off : Int} {t : Nat} (ht : (pc : Int) + off = (t : Int)) (hb : yb y = cc) (hg : decode cc pc = .ok (.ifCond .eq off, 3)) : IOK P yn yb yr yh l y pc (pIf0 (fun x => decide (x = 0)) t (pc + 3)) := ⟨gr_pIf0, fun p e R s m args below meth c Q x0 s0 d G ls st h => k_if_eq ht h.1 (h.2.1.trans hb) hg⟩
theorem i_icmp_eq {off : Int} {t : Nat} (ht : (pc : Int) + off = (t : Int)) (hb : yb y = cc) (hg : decode cc pc = .ok (.if_icmp .eq off, 3)) : IOK P yn yb yr yh l y pc (pIf2 (fun x y => decide (x = y)) t (pc + 3)) := ⟨gr_pIf2, fun p e R s m args below meth c Q x0 s0 d G ls st h => k_icmp_eq ht h.1 (h.2.1.trans hb) hg⟩
theorem i_if_ne {off : Int} {t : Nat} (ht : (pc : Int) + off = (t : Int)) (hb : yb y = cc) (hg : decode cc pc = .ok (.ifCond .ne off, 3)) : IOK P yn yb yr yh l y pc (pIf0 (fun x => decide (¬ x = 0)) t (pc + 3)) := ⟨gr_pIf0, fun p e R s m args below meth c Q x0 s0 d G ls st h => k_if_ne ht h.1 (h.2.1.trans hb) hg⟩
theorem i_icmp_ne {off : Int} {t : Nat} (ht : (pc : Int) + off = (t : Int)) (hb : yb y = cc) (hg : decode cc pc = .ok (.if_icmp .ne off, 3)) : IOK P yn yb yr yh l y pc (pIf2 (fun x y => decide (¬ x = y)) t (pc + 3)) := ⟨gr_pIf2, fun p e R s m args below meth c Q x0 s0 d G ls st h => k_icmp_ne ht h.1 (h.2.1.trans hb) hg⟩
theorem i_if_lt {off : Int} {t : Nat} (ht : (pc : Int) + off = (t : Int)) (hb : yb y = cc) (hg : decode cc pc = .ok (.ifCond .lt off, 3)) : IOK P yn yb yr yh l y pc (pIf0 (fun x => decide (x < 0)) t (pc + 3)) := ⟨gr_pIf0, fun p e R s m args below meth c Q x0 s0 d G ls st h => k_if_lt ht h.1 (h.2.1.trans hb) hg⟩
theorem i_icmp_lt {off : Int} {t : Nat} (ht : (pc : Int) + off = (t : Int)) (hb : yb y = cc) (hg : decode cc pc = .ok (.if_icmp .lt off, 3)) : IOK P yn yb yr yh l y pc (pIf2 (fun x y => decide (x < y)) t (pc + 3)) := ⟨gr_pIf2, fun p e R s m args below meth c Q x0 s0 d G ls st h => k_icmp_lt ht h.1 (h.2.1.trans hb) hg⟩
theorem i_if_ge {off : Int} {t : Nat} (ht : (pc : Int) + off = (t : Int)) (hb : yb y = cc) (hg : decode cc pc = .ok (.ifCond .ge off, 3)) : IOK P yn yb yr yh l y pc (pIf0 (fun x => decide (0 ≤ x)) t (pc + 3)) := ⟨gr_pIf0, fun p e R s m args below meth c Q x0 s0 d G ls st h => k_if_ge ht h.1 (h.2.1.trans hb) hg⟩
theorem i_icmp_ge {off : Int} {t : Nat} (ht : (pc : Int) + off = (t : Int)) (hb : yb y = cc) (hg : decode cc pc = .ok (.if_icmp .ge off, 3)) : IOK P yn yb yr yh l y pc (pIf2 (fun x y => decide (y ≤ x)) t (pc + 3)) := ⟨gr_pIf2, fun p e R s m args below meth c Q x0 s0 d G ls st h => k_icmp_ge ht h.1 (h.2.1.trans hb) hg⟩
theorem i_if_gt {off : Int} {t : Nat} (ht : (pc : Int) + off = (t : Int)) (hb : yb y = cc) (hg : decode cc pc = .ok (.ifCond .gt off, 3)) : IOK P yn yb yr yh l y pc (pIf0 (fun x => decide (0 < x)) t (pc + 3)) := ⟨gr_pIf0, fun p e R s m args below meth c Q x0 s0 d G ls st h => k_if_gt ht h.1 (h.2.1.trans hb) hg⟩
theorem i_icmp_gt {off : Int} {t : Nat} (ht : (pc : Int) + off = (t : Int)) (hb : yb y = cc) (hg : decode cc pc = .ok (.if_icmp .gt off, 3)) : IOK P yn yb yr yh l y pc (pIf2 (fun x y => decide (y < x)) t (pc + 3)) := ⟨gr_pIf2, fun p e R s m args below meth c Q x0 s0 d G ls st h => k_icmp_gt ht h.1 (h.2.1.trans hb) hg⟩
theorem i_if_le {off : Int} {t : Nat} (ht : (pc : Int) + off = (t : Int)) (hb : yb y = cc) (hg : decode cc pc = .ok (.ifCond .le off, 3)) : IOK P yn yb yr yh l y pc (pIf0 (fun x => decide (x ≤ 0)) t (pc + 3)) := ⟨gr_pIf0, fun p e R s m args below meth c Q x0 s0 d G ls st h => k_if_le ht h.1 (h.2.1.trans hb) hg⟩
theorem i_icmp_le {off : Int} {t : Nat} (ht : (pc : Int) + off = (t : Int)) (hb : yb y = cc) (hg : decode cc pc = .ok (.if_icmp .le off, 3)) : IOK P yn yb yr yh l y pc (pIf2 (fun x y => decide (x ≤ y)) t (pc + 3)) := ⟨gr_pIf2, fun p e R s m args below meth c Q x0 s0 d G ls st h => k_icmp_le ht h.1 (h.2.1.trans hb) hg⟩
theorem i_ifnull {off : Int} {t : Nat} (ht : (pc : Int) + off = (t : Int)) (hb : yb y = cc) (hg : decode cc pc = .ok (.ifnull off, 3)) : IOK P yn yb yr yh l y pc (pIfN t (pc + 3)) := ⟨gr_pIfN, fun p e R s m args below meth c Q x0 s0 d G ls st h => k_ifnull ht h.1 (h.2.1.trans hb) hg⟩
theorem i_ifnonnull {off : Int} {t : Nat} (ht : (pc : Int) + off = (t : Int)) (hb : yb y = cc) (hg : decode cc pc = .ok (.ifnonnull off, 3)) : IOK P yn yb yr yh l y pc (pIfN (pc + 3) t) := ⟨gr_pIfN, fun p e R s m args below meth c Q x0 s0 d G ls st h => k_ifnonnull ht h.1 (h.2.1.trans hb) hg⟩
theorem i_tsw {dflt lo hi : Int} {offs : Array Int} {len df : Nat} {cs : List (Int32 × Nat)} (hs : tsw cs pc lo offs.toList = true) (hn : hi = lo + offs.size - 1) (hf : (pc : Int) + dflt = (df : Int)) (hb : yb y = cc) (hg : decode cc pc = .ok (.tableswitch dflt lo hi offs, len)) : IOK P yn yb yr yh l y pc (pSw cs df) := ⟨gr_pSw, fun p e R s m args below meth c Q x0 s0 d G ls st h => k_tsw hs hn hf h.1 (h.2.1.trans hb) hg⟩
theorem i_lsw {dflt : Int} {ps : Array (Int × Int)} {len df : Nat} {cs : List (Int32 × Nat)} (hs : lsw cs pc ps.toList = true) (hp : (ps.toList.zip (ps.toList.drop 1)).all (fun (a, next) => a.1 < next.1) = true) (hf : (pc : Int) + dflt = (df : Int)) (hb : yb y = cc) (hg : decode cc pc = .ok (.lookupswitch dflt ps, len)) : IOK P yn yb yr yh l y pc (pSw cs df) := ⟨gr_pSw, fun p e R s m args below meth c Q x0 s0 d G ls st h => k_lsw hs hp hf h.1 (h.2.1.trans hb) hg⟩
theorem i_acmp_eq {off : Int} {t : Nat} (ht : (pc : Int) + off = (t : Int)) (hb : yb y = cc) (hg : decode cc pc = .ok (.if_acmp .eq off, 3)) : IOK P yn yb yr yh l y pc (pIfA true t (pc + 3)) := ⟨gr_pIfA, fun p e R s m args below meth c Q x0 s0 d G ls st h => k_acmp_eq ht h.1 (h.2.1.trans hb) hg⟩
theorem i_acmp_ne {off : Int} {t : Nat} (ht : (pc : Int) + off = (t : Int)) (hb : yb y = cc) (hg : decode cc pc = .ok (.if_acmp .ne off, 3)) : IOK P yn yb yr yh l y pc (pIfA false t (pc + 3)) := ⟨gr_pIfA, fun p e R s m args below meth c Q x0 s0 d G ls st h => k_acmp_ne ht h.1 (h.2.1.trans hb) hg⟩
theorem i_retI (hr : yr y = some .int)  (hb : yb y = cc) (hg : decode cc pc = .ok (.ireturn, 1)) : IOK P yn yb yr yh l y pc (pRetI) := ⟨gr_pRetI (by rw [hr]; intro x; trivial), fun p e R s m args below meth c Q x0 s0 d G ls st h => k_retI (h.ret.trans hr) h.lk h.1 (h.2.1.trans hb) hg⟩
theorem i_retZ (hr : yr y = some .boolean)  (hb : yb y = cc) (hg : decode cc pc = .ok (.ireturn, 1)) : IOK P yn yb yr yh l y pc (pRetZ) := ⟨gr_pRetZ (by rw [hr]; intro x; trivial), fun p e R s m args below meth c Q x0 s0 d G ls st h => k_retZ (h.ret.trans hr) h.lk h.1 (h.2.1.trans hb) hg⟩
theorem i_retC (hr : yr y = some .char)  (hb : yb y = cc) (hg : decode cc pc = .ok (.ireturn, 1)) : IOK P yn yb yr yh l y pc (pRetC) := ⟨gr_pRetC (by rw [hr]; intro x; trivial), fun p e R s m args below meth c Q x0 s0 d G ls st h => k_retC (h.ret.trans hr) h.lk h.1 (h.2.1.trans hb) hg⟩
theorem i_retB (hr : yr y = some .byte)  (hb : yb y = cc) (hg : decode cc pc = .ok (.ireturn, 1)) : IOK P yn yb yr yh l y pc (pRetB) := ⟨gr_pRetB (by rw [hr]; intro x; trivial), fun p e R s m args below meth c Q x0 s0 d G ls st h => k_retB (h.ret.trans hr) h.lk h.1 (h.2.1.trans hb) hg⟩
theorem i_retL (hr : yr y = some .long)  (hb : yb y = cc) (hg : decode cc pc = .ok (.lreturn, 1)) : IOK P yn yb yr yh l y pc (pRetL) := ⟨gr_pRetL (by rw [hr]; intro x; trivial), fun p e R s m args below meth c Q x0 s0 d G ls st h => k_retL (h.ret.trans hr) h.lk h.1 (h.2.1.trans hb) hg⟩
theorem i_retF (hr : yr y = some .float)  (hb : yb y = cc) (hg : decode cc pc = .ok (.freturn, 1)) : IOK P yn yb yr yh l y pc (pRetF) := ⟨gr_pRetF (by rw [hr]; intro x; trivial), fun p e R s m args below meth c Q x0 s0 d G ls st h => k_retF (h.ret.trans hr) h.lk h.1 (h.2.1.trans hb) hg⟩
theorem i_retD (hr : yr y = some .double)  (hb : yb y = cc) (hg : decode cc pc = .ok (.dreturn, 1)) : IOK P yn yb yr yh l y pc (pRetD) := ⟨gr_pRetD (by rw [hr]; intro x; trivial), fun p e R s m args below meth c Q x0 s0 d G ls st h => k_retD (h.ret.trans hr) h.lk h.1 (h.2.1.trans hb) hg⟩
theorem i_retA {rt : FieldType} (hr : yr y = some rt) (hrt : (∃ n, rt = .object n) ∨ ∃ t, rt = .array t)  (hb : yb y = cc) (hg : decode cc pc = .ok (.areturn, 1)) : IOK P yn yb yr yh l y pc (pRetA) := ⟨gr_pRetA (by rw [hr]; intro v; rcases hrt with ⟨n, rfl⟩ | ⟨t, rfl⟩ <;> trivial), fun p e R s m args below meth c Q x0 s0 d G ls st h => k_retA (h.ret.trans hr) hrt h.lk h.1 (h.2.1.trans hb) hg⟩
theorem i_retV (hr : yr y = none)  (hb : yb y = cc) (hg : decode cc pc = .ok (.return_, 1)) : IOK P yn yb yr yh l y pc (pRet) := ⟨gr_pRet (by rw [hr]; trivial), fun p e R s m args below meth c Q x0 s0 d G ls st h => k_retV (h.ret.trans hr) h.lk h.1 (h.2.1.trans hb) hg⟩
theorem i_iald  (hb : yb y = cc) (hg : decode cc pc = .ok (.iaload, 1)) : IOK P yn yb yr yh l y pc (pIald 100 (pc + 1)) := ⟨gr_pIald, fun p e R s m args below meth c Q x0 s0 d G ls st h => k_iald  h.1 (h.2.1.trans hb) hg⟩
theorem i_bald  (hb : yb y = cc) (hg : decode cc pc = .ok (.baload, 1)) : IOK P yn yb yr yh l y pc (pIald 102 (pc + 1)) := ⟨gr_pIald, fun p e R s m args below meth c Q x0 s0 d G ls st h => k_bald  h.1 (h.2.1.trans hb) hg⟩
theorem i_lald  (hb : yb y = cc) (hg : decode cc pc = .ok (.laload, 1)) : IOK P yn yb yr yh l y pc (pLald (pc + 1)) := ⟨gr_pLald, fun p e R s m args below meth c Q x0 s0 d G ls st h => k_lald  h.1 (h.2.1.trans hb) hg⟩
theorem i_dald  (hb : yb y = cc) (hg : decode cc pc = .ok (.daload, 1)) : IOK P yn yb yr yh l y pc (pDald (pc + 1)) := ⟨gr_pDald, fun p e R s m args below meth c Q x0 s0 d G ls st h => k_dald  h.1 (h.2.1.trans hb) hg⟩
theorem i_aald  (hb : yb y = cc) (hg : decode cc pc = .ok (.aaload, 1)) : IOK P yn yb yr yh l y pc (pAald (pc + 1)) := ⟨gr_pAald, fun p e R s m args below meth c Q x0 s0 d G ls st h => k_aald  h.1 (h.2.1.trans hb) hg⟩
theorem i_alen  (hb : yb y = cc) (hg : decode cc pc = .ok (.arraylength, 1)) : IOK P yn yb yr yh l y pc (pAlen (pc + 1)) := ⟨gr_pAlen, fun p e R s m args below meth c Q x0 s0 d G ls st h => k_alen  h.1 (h.2.1.trans hb) hg⟩
theorem i_iast  (hb : yb y = cc) (hg : decode cc pc = .ok (.iastore, 1)) : IOK P yn yb yr yh l y pc (pIast (pc + 1)) := ⟨gr_pIast, fun p e R s m args below meth c Q x0 s0 d G ls st h => k_iast  h.1 (h.2.1.trans hb) hg⟩
theorem i_bast  (hb : yb y = cc) (hg : decode cc pc = .ok (.bastore, 1)) : IOK P yn yb yr yh l y pc (pBast (pc + 1)) := ⟨gr_pBast, fun p e R s m args below meth c Q x0 s0 d G ls st h => k_bast  h.1 (h.2.1.trans hb) hg⟩
theorem i_last  (hb : yb y = cc) (hg : decode cc pc = .ok (.lastore, 1)) : IOK P yn yb yr yh l y pc (pLast (pc + 1)) := ⟨gr_pLast, fun p e R s m args below meth c Q x0 s0 d G ls st h => k_last  h.1 (h.2.1.trans hb) hg⟩
theorem i_dast  (hb : yb y = cc) (hg : decode cc pc = .ok (.dastore, 1)) : IOK P yn yb yr yh l y pc (pDast (pc + 1)) := ⟨gr_pDast, fun p e R s m args below meth c Q x0 s0 d G ls st h => k_dast  h.1 (h.2.1.trans hb) hg⟩
def Fl2 (Q : Nat → Nat → Prop) : List (Nat × Nat) → Prop
  | [] => True
  | q :: r => Q q.1 q.2 ∧ Fl2 Q r
theorem Fl2.all {Q : Nat → Nat → Prop} : ∀ {tk : List (Nat × Nat)}, Fl2 Q tk → ∀ q ∈ tk, Q q.1 q.2
  | [], _, q, hq => by cases hq
  | a :: r, h, q, hq => by
    rcases List.mem_cons.mp hq with e | e
    · rw [e]; exact h.1
    · exact Fl2.all h.2 q e
def Fl1 (Q : Nat → Prop) : List Nat → Prop
  | [] => True
  | q :: r => Q q ∧ Fl1 Q r
theorem Fl1.all {Q : Nat → Prop} : ∀ {tk : List Nat}, Fl1 Q tk → ∀ q ∈ tk, Q q
  | [], _, q, hq => by cases hq
  | a :: r, h, q, hq => by
    rcases List.mem_cons.mp hq with e | e
    · rw [e]; exact h.1
    · exact Fl1.all h.2 q e
/-- a link, in the tables or a nest mate's -/
def LkF (own : String) (index : Nat) (ref n d : String) : Prop := Cond.fieldLink own index ref n d ∈ lw_all ∨ ∃ host, (own, index, ref, n, d, host) ∈ tkFN
theorem LkF.use {s : State} {args : Array Value} {own ref n d : String} {index : Nat} (hts : ∀ w ∈ lw_all, w.before args s = true) (htk : TK s) (h : LkF own index ref n d) : (Cond.fieldLink own index ref n d).before args s = true ∨ ∃ host, (Cond.fieldLinkNest own index ref n d host).before args s = true := by
  rcases h with h | ⟨host, h⟩
  · exact Or.inl (hts _ h)
  · exact Or.inr ⟨host, va_Nw.use (A := args) rfl (htk.2.2.1 _ h)⟩
def SmF (ref decl n d : String) : Prop := ref = decl ∨ Cond.sameField ref decl n d ∈ lw_all
theorem SmF.use {s : State} {args : Array Value} {ref decl n d : String} (hts : ∀ w ∈ lw_all, w.before args s = true) (h : SmF ref decl n d) : ∀ x, s.fieldFound? decl n d = some x → s.fieldFound? ref n d = some x := by
  intro x hx
  rcases h with rfl | h
  · exact hx
  · exact u_same (hts _ h) x hx
def LkM (own : String) (index : Nat) (y : MethodName) : Prop := Cond.methodLink own index y ∈ lw_all ∨ ∃ host, (own, index, y, host) ∈ tkMN
theorem LkM.use {s : State} {own : String} {index : Nat} {y : MethodName} (htk : TK s) (h : LkM own index y) : Cond.methodLink own index y ∈ lw_all ∨ ∃ host, va_Nw (.methodLinkNest own index y host) s := h.imp id fun ⟨host, q⟩ => ⟨host, htk.2.2.2.1 _ q⟩
/-- a class of objects -/
def TG (t : Nat) : Prop := tcl t = true ∧ (∃ n, Cond.instantiable (cNm t) n ∈ lw_all) ∧ Cond.initialized (cNm t) ∈ lw_all ∧ (∀ k, k < cL t → u_lay (cNm t) (cT t) k ∈ lw_all) ∧ (∀ k, k < cL t → parseFieldDescriptor (cT t k).2.2.1 = some (cTy t k)) ∧ (∀ k, k < cL t → okTy (cTy t k) = true)
theorem TG.np {s : State} {args : Array Value} {t n : Nat} (hts : ∀ w ∈ lw_all, w.before args s = true) (h : TG t) (hn : Cond.instantiable (cNm t) n ∈ lw_all) : NP s args t n := by
  obtain ⟨h1, -, h3, h4, h5, h6⟩ := h
  refine ⟨h1, hts _ hn, hts _ h3, fun k hk => ⟨h5 k hk, h6 k hk, ?_⟩⟩
  have w := hts _ (h4 k hk)
  unfold u_lay at w
  split at w
  · exact Or.inr w
  · exact Or.inl w
/-- a field's read -/
def FLs (own : String) (index t k : Nat) : Prop := tcl t = true ∧ k < cL t ∧ ∃ ref, LkF own index ref (cT t k).2.1 (cT t k).2.2.1 ∧ SmF ref (cT t k).1 (cT t k).2.1 (cT t k).2.2.1
theorem FLs.use {s : State} {args : Array Value} {own : String} {index t k : Nat} (hts : ∀ w ∈ lw_all, w.before args s = true) (htk : TK s) (h : FLs own index t k) : FL s args own index t k := by
  obtain ⟨h1, h2, ref, h3, h4⟩ := h
  exact ⟨h1, h2, ref, h3.use hts htk, h4.use hts⟩
/-- a field's write -/
def FPs (own nm : String) (index t k : Nat) : Prop := TG t ∧ k < cL t ∧ ((cT t k).2.2.2 = false ∨ (nm = "<init>" ∧ (cT t k).1 = own ∧ Cond.fieldLink own index (cT t k).1 (cT t k).2.1 (cT t k).2.2.1 ∈ lw_all))
theorem FPs.use {s : State} {args : Array Value} {own nm : String} {index t k : Nat} (hts : ∀ w ∈ lw_all, w.before args s = true) (h : FPs own nm index t k) : FP s args own nm index t k := by
  obtain ⟨⟨-, ⟨n, g2⟩, -, g4, g5, -⟩, h2, h3⟩ := h
  refine ⟨g5 k h2, ⟨n, hts _ g2⟩, ?_⟩
  have w := hts _ (g4 k h2)
  unfold u_lay at w
  rcases h3 with h3 | ⟨e1, e2, e3⟩
  · rw [if_neg (by rw [h3]; exact Bool.false_ne_true)] at w
    exact Or.inl w
  · split at w
    · exact Or.inr ⟨w, e1, e2, _, hts _ e3, fun x hx => hx⟩
    · exact Or.inl w
theorem i_ldc {own : String} {index : Nat} {v : Int32} (ho : (yn y).cls = own) (hc : Cond.constant own index v ∈ lw_all) (hb : yb y = cc) (hg : decode cc pc = .ok (.ldc index, 2)) : IOK P yn yb yr yh l y pc (pK (.int v) (pc + 2)) := ⟨gr_pK, fun p e R s m args below meth c Q x0 s0 d G ls st h => k_ldc (h.own ho) (h.ws _ hc) h.1 (h.2.1.trans hb) hg⟩
theorem i_ldcw {own : String} {index : Nat} {v : Int32} (ho : (yn y).cls = own) (hc : Cond.constant own index v ∈ lw_all) (hb : yb y = cc) (hg : decode cc pc = .ok (.ldc_w index, 3)) : IOK P yn yb yr yh l y pc (pK (.int v) (pc + 3)) := ⟨gr_pK, fun p e R s m args below meth c Q x0 s0 d G ls st h => k_same fun lsA H locs ce sl hl k => lv_ldcw h.1 (h.2.1.trans hb) (h.own ho) (h.ws _ hc) hg k⟩
theorem i_ldc2 {own : String} {index : Nat} {v : Int64} (ho : (yn y).cls = own) (hc : Cond.constantLong own index v ∈ lw_all) (hb : yb y = cc) (hg : decode cc pc = .ok (.ldc2_w index, 3)) : IOK P yn yb yr yh l y pc (pK (.long v) (pc + 3)) := ⟨gr_pK, fun p e R s m args below meth c Q x0 s0 d G ls st h => k_ldc2 (h.own ho) (h.ws _ hc) h.1 (h.2.1.trans hb) hg⟩
theorem i_ldcS {q : Nat × String × Nat × String} (hq : q ∈ sStr) (ho : (yn y).cls = q.2.1) (hb : yb y = cc) (hg : decode cc pc = .ok (.ldc q.2.2.1, 2)) : IOK P yn yb yr yh l y pc (pSt q.1 (pc + 2)) := ⟨gr_pSt, fun p e R s m args below meth c Q x0 s0 d G ls st h => k_ldcS hq (h.own ho) h.1 (h.2.1.trans hb) hg⟩
theorem i_ldcwS {q : Nat × String × Nat × String} (hq : q ∈ sStr) (ho : (yn y).cls = q.2.1) (hb : yb y = cc) (hg : decode cc pc = .ok (.ldc_w q.2.2.1, 3)) : IOK P yn yb yr yh l y pc (pSt q.1 (pc + 3)) := ⟨gr_pSt, fun p e R s m args below meth c Q x0 s0 d G ls st h => k_ldcwS hq (h.own ho) h.1 (h.2.1.trans hb) hg⟩
theorem i_gref {own ref : String} {index : Nat} {q : Nat × String × String × String} (hq : q ∈ sRef) (ho : (yn y).cls = own) (hl : LkF own index ref q.2.2.1 q.2.2.2) (hs : SmF ref q.2.1 q.2.2.1 q.2.2.2) (hb : yb y = cc) (hg : decode cc pc = .ok (.getstatic index, 3)) : IOK P yn yb yr yh l y pc (pSt q.1 (pc + 3)) := ⟨gr_pSt, fun p e R s m args below meth c Q x0 s0 d G ls st h => k_gref hq (hl.use h.ws h.tk) (hs.use h.ws) (h.own ho) h.1 (h.2.1.trans hb) hg⟩
theorem i_gint {own ref : String} {index : Nat} {q : String × String × String × Int32} (hq : q ∈ sInt) (ho : (yn y).cls = own) (hl : LkF own index ref q.2.1 q.2.2.1) (hs : SmF ref q.1 q.2.1 q.2.2.1) (hb : yb y = cc) (hg : decode cc pc = .ok (.getstatic index, 3)) : IOK P yn yb yr yh l y pc (pK (.int q.2.2.2) (pc + 3)) := ⟨gr_pK, fun p e R s m args below meth c Q x0 s0 d G ls st h => k_gint hq (hl.use h.ws h.tk) (hs.use h.ws) (h.own ho) h.1 (h.2.1.trans hb) hg⟩
theorem i_gq {own ref : String} {index : Nat} {q : Nat × String × String × String} (hq : q ∈ sQ) (ho : (yn y).cls = own) (hl : LkF own index ref q.2.2.1 q.2.2.2) (hs : SmF ref q.2.1 q.2.2.1 q.2.2.2) (hb : yb y = cc) (hg : decode cc pc = .ok (.getstatic index, 3)) : IOK P yn yb yr yh l y pc (pStQ q.1 (pc + 3)) := ⟨gr_pStQ, fun p e R s m args below meth c Q x0 s0 d G ls st h => k_gq hq (hl.use h.ws h.tk) (hs.use h.ws) (h.own ho) h.1 (h.2.1.trans hb) hg⟩
theorem i_get {rd : Hp → Nat → Nat → Value} {tk : List (Nat × Nat)} {own : String} {index : Nat} (ho : (yn y).cls = own) (hf : Fl2 (fun t k => FLs own index t k ∧ ∀ (G : Hp) (a : Nat), fval G a k (cTy t k) = rd G a k) tk) (hb : yb y = cc) (hg : decode cc pc = .ok (.getfield index, 3)) : IOK P yn yb yr yh l y pc (pGet rd tk (pc + 3)) := ⟨gr_pGet, fun p e R s m args below meth c Q x0 s0 d G ls st h => k_get (fun q hq => ⟨(hf.all q hq).1.use h.ws h.tk, (hf.all q hq).2⟩) (h.own ho) h.1 (h.2.1.trans hb) hg⟩
theorem i_putI {ok : Int32 → Bool} {tk : List (Nat × Nat)} {own nm : String} {index : Nat} (ho : (yn y).cls = own) (hn : (yn y).name = nm) (hf : Fl2 (fun t k => FLs own index t k ∧ FPs own nm index t k ∧ isI (cTy t k) ok) tk) (hb : yb y = cc) (hg : decode cc pc = .ok (.putfield index, 3)) : IOK P yn yb yr yh l y pc (pPutI ok tk (pc + 3)) := ⟨gr_pPutI, fun p e R s m args below meth c Q x0 s0 d G ls st h => k_putI (fun q hq => ⟨(hf.all q hq).1.use h.ws h.tk, by rw [h.nm, hn]; exact (hf.all q hq).2.1.use h.ws, (hf.all q hq).2.2⟩) (h.own ho) h.1 (h.2.1.trans hb) hg⟩
theorem i_putR {tk : List (Nat × Nat)} {own nm : String} {index : Nat} (ho : (yn y).cls = own) (hn : (yn y).name = nm) (hf : Fl2 (fun t k => FLs own index t k ∧ FPs own nm index t k ∧ isR (cTy t k)) tk) (hb : yb y = cc) (hg : decode cc pc = .ok (.putfield index, 3)) : IOK P yn yb yr yh l y pc (pPutR tk (pc + 3)) := ⟨gr_pPutR, fun p e R s m args below meth c Q x0 s0 d G ls st h => k_putR (fun q hq => ⟨(hf.all q hq).1.use h.ws h.tk, by rw [h.nm, hn]; exact (hf.all q hq).2.1.use h.ws, (hf.all q hq).2.2⟩) (h.own ho) h.1 (h.2.1.trans hb) hg⟩
theorem i_putJ {tk : List (Nat × Nat)} {own nm : String} {index : Nat} (ho : (yn y).cls = own) (hn : (yn y).name = nm) (hf : Fl2 (fun t k => FLs own index t k ∧ FPs own nm index t k ∧ cTy t k = .long) tk) (hb : yb y = cc) (hg : decode cc pc = .ok (.putfield index, 3)) : IOK P yn yb yr yh l y pc (pPutJ tk (pc + 3)) := ⟨gr_pPutJ, fun p e R s m args below meth c Q x0 s0 d G ls st h => k_putJ (fun q hq => ⟨(hf.all q hq).1.use h.ws h.tk, by rw [h.nm, hn]; exact (hf.all q hq).2.1.use h.ws, (hf.all q hq).2.2⟩) (h.own ho) h.1 (h.2.1.trans hb) hg⟩
theorem i_new {t n index : Nat} {own : String} (ho : (yn y).cls = own) (ht : TG t) (hn : Cond.instantiable (cNm t) n ∈ lw_all) (hcl : Cond.classLink own index (cNm t) ∈ lw_all) (hb : yb y = cc) (hg : decode cc pc = .ok (.new index, 3)) : IOK P yn yb yr yh l y pc (pNew t n (pc + 3)) := ⟨gr_pNew, fun p e R s m args below meth c Q x0 s0 d G ls st h => k_new (ht.np h.ws hn) (h.ws _ hcl) (h.own ho) h.1 (h.2.1.trans hb) hg⟩
theorem i_newa {t : Nat} {atype : ArrayType} (ht : tar t = true) (hty : newarray.typeOf atype = aTy t) (hcb : componentBytes (aTy t) ≤ 8) (harr : Cond.arrayClass (aTy t) ∈ lw_all) (hb : yb y = cc) (hg : decode cc pc = .ok (.newarray atype, 2)) : IOK P yn yb yr yh l y pc (pNewa t (pc + 2)) := ⟨gr_pNewa, fun p e R s m args below meth c Q x0 s0 d G ls st h => k_newa ht hty hcb (h.ws _ harr) h.1 (h.2.1.trans hb) hg⟩
theorem i_anew {t index : Nat} {own C : String} (ho : (yn y).cls = own) (ht : tar t = true) (hty : aTy t = .object C) (hcl : Cond.classLink own index C ∈ lw_all) (hao : C ∈ tkAO) (hb : yb y = cc) (hg : decode cc pc = .ok (.anewarray index, 3)) : IOK P yn yb yr yh l y pc (pNewa t (pc + 3)) := ⟨gr_pNewa, fun p e R s m args below meth c Q x0 s0 d G ls st h => k_anew ht hty (h.ws _ hcl) (h.tk.2.2.2.2.1 _ hao) (h.own ho) h.1 (h.2.1.trans hb) hg⟩
theorem i_aast {ok : Nat → Nat → Bool} (hap : ∀ s, TK s → AP s ok) (hok : ∀ t u, ok t u = true → u ≠ 0) (hb : yb y = cc) (hg : decode cc pc = .ok (.aastore, 1)) : IOK P yn yb yr yh l y pc (pAast ok (pc + 1)) := ⟨gr_pAast, fun p e R s m args below meth c Q x0 s0 d G ls st h => k_aast (hap s h.tk) hok h.1 (h.2.1.trans hb) hg⟩
def CPs (nm : String) (t : Nat) : Prop := (t ≠ 0 ∧ tlm t = false) ∧ ∃ D, (tcl t = true → D = cNm t) ∧ (tar t = true → D = "[" ++ (aTy t).toString) ∧ (D = nm ∨ (D, nm) ∈ tkC)
def CNs (nm : String) (t : Nat) : Prop := (t ≠ 0 ∧ tlm t = false) ∧ ∃ D, (tcl t = true → D = cNm t) ∧ (tar t = true → D = "[" ++ (aTy t).toString) ∧ (D, nm) ∈ tkN
theorem CPs.use {s : State} {nm : String} {ts : List Nat} (htk : TK s) (h : Fl1 (CPs nm) ts) : CP s nm ts := fun t ht => by
  obtain ⟨h1, D, h2, h3, h4⟩ := h.all t ht
  exact ⟨h1, D, h2, h3, h4.imp id fun q => htk.1 _ q⟩
theorem CNs.use {s : State} {nm : String} {ts : List Nat} (htk : TK s) (h : Fl1 (CNs nm) ts) : CN s nm ts := fun t ht => by
  obtain ⟨h1, D, h2, h3, h4⟩ := h.all t ht
  exact ⟨h1, D, h2, h3, htk.2.1 _ h4⟩
theorem i_cast {ts : List Nat} {own nm : String} {index : Nat} (ho : (yn y).cls = own) (hc : Fl1 (CPs nm) ts) (hcl : Cond.classLink own index nm ∈ lw_all) (hb : yb y = cc) (hg : decode cc pc = .ok (.checkcast index, 3)) : IOK P yn yb yr yh l y pc (pCast ts (pc + 3)) := ⟨gr_pCast, fun p e R s m args below meth c Q x0 s0 d G ls st h => k_cast (CPs.use h.tk hc) (h.ws _ hcl) (h.own ho) h.1 (h.2.1.trans hb) hg⟩
theorem i_inst {ts ns : List Nat} {own nm : String} {index : Nat} (ho : (yn y).cls = own) (hc : Fl1 (CPs nm) ts) (hn : Fl1 (CNs nm) ns) (hcl : Cond.classLink own index nm ∈ lw_all) (hb : yb y = cc) (hg : decode cc pc = .ok (.instanceof index, 3)) : IOK P yn yb yr yh l y pc (pInst ts ns (pc + 3)) := ⟨gr_pInst, fun p e R s m args below meth c Q x0 s0 d G ls st h => k_inst (CPs.use h.tk hc) (CNs.use h.tk hn) (h.ws _ hcl) (h.own ho) h.1 (h.2.1.trans hb) hg⟩
theorem i_objInit {own : String} {index : Nat} (ho : (yn y).cls = own) (hl : Cond.methodLink own index Lib.objectInit ∈ lw_all) (hi : Cond.instanceMethod Lib.objectInit ∈ lw_all) (hc : Cond.code Lib.objectInit ⟨#[0xb1]⟩ 1 none ∈ lw_all) (hb : yb y = cc) (hg : decode cc pc = .ok (.invokespecial index, 3)) : IOK P yn yb yr yh l y pc (pObjInit (pc + 3)) := ⟨gr_pObjInit, fun p e R s m args below meth c Q x0 s0 d G ls st h => k_objInit (h.own ho) (h.ws _ hl) (h.ws _ hi) (h.ws _ hc) h.fr h.lo h.1 (h.2.1.trans hb) hg⟩
theorem i_min {own : String} {index : Nat} (ho : (yn y).cls = own) (hl : Cond.methodLink own index Lib.Math.min.name ∈ lw_all) (hi : Cond.static Lib.Math.min.name ∈ lw_all) (hn : Cond.initialized "java/lang/Math" ∈ lw_all) (hc : Cond.code Lib.Math.min.name Lib.Math.min.code 2 (some .int) ∈ lw_all) (hb : yb y = cc) (hg : decode cc pc = .ok (.invokestatic index, 3)) : IOK P yn yb yr yh l y pc (pMin (pc + 3)) := ⟨gr_pMin, fun p e R s m args below meth c Q x0 s0 d G ls st h => k_min (h.own ho) (h.ws _ hl) (h.ws _ hi) (h.ws _ hn) (h.ws _ hc) h.fr h.lo h.1 (h.2.1.trans hb) hg⟩
theorem i_max {own : String} {index : Nat} (ho : (yn y).cls = own) (hl : Cond.methodLink own index Lib.Math.max.name ∈ lw_all) (hi : Cond.static Lib.Math.max.name ∈ lw_all) (hn : Cond.initialized "java/lang/Math" ∈ lw_all) (hc : Cond.code Lib.Math.max.name Lib.Math.max.code 2 (some .int) ∈ lw_all) (hb : yb y = cc) (hg : decode cc pc = .ok (.invokestatic index, 3)) : IOK P yn yb yr yh l y pc (pMax (pc + 3)) := ⟨gr_pMax, fun p e R s m args below meth c Q x0 s0 d G ls st h => k_max (h.own ho) (h.ws _ hl) (h.ws _ hi) (h.ws _ hn) (h.ws _ hc) h.fr h.lo h.1 (h.2.1.trans hb) hg⟩
theorem i_copy {ok : Nat → Nat → Bool} {own : String} {index : Nat} (hap : ∀ s, TK s → AP s ok) (hok : ∀ t u, ok t u = true → u ≠ 0) (ho : (yn y).cls = own) (hl : Cond.methodLink own index arraycopyName ∈ lw_all) (hnat : Cond.native arraycopyName ∈ lw_all) (hstat : Cond.static arraycopyName ∈ lw_all) (hini : Cond.initialized "java/lang/System" ∈ lw_all) (hb : yb y = cc) (hg : decode cc pc = .ok (.invokestatic index, 3)) : IOK P yn yb yr yh l y pc (pCopy ok (pc + 3)) := ⟨gr_pCopy, fun p e R s m args below meth c Q x0 s0 d G ls st h => k_copy (hap s h.tk) hok (h.own ho) (h.ws _ hl) (h.ws _ hnat) (h.ws _ hstat) (h.ws _ hini) h.1 (h.2.1.trans hb) hg h.fr h.lo⟩
theorem i_clone {own ad : String} {index t : Nat} (ho : (yn y).cls = own) (hl : Cond.methodLink own index ⟨ad, "clone", "()Ljava/lang/Object;"⟩ ∈ lw_all) (hsame : Cond.sameMethod ad "java/lang/Object" "clone" "()Ljava/lang/Object;" ∈ lw_all) (hnat : Cond.native ⟨"java/lang/Object", "clone", "()Ljava/lang/Object;"⟩ ∈ lw_all) (hinst : Cond.instanceMethod ⟨"java/lang/Object", "clone", "()Ljava/lang/Object;"⟩ ∈ lw_all)
    (hsel : Cond.selects ad ⟨ad, "clone", "()Ljava/lang/Object;"⟩ ⟨"java/lang/Object", "clone", "()Ljava/lang/Object;"⟩ ∈ lw_all) (hcl : (ad, "java/lang/Cloneable") ∈ tkC) (had : ad = "[" ++ (aTy t).toString) (hta : tar t = true) (hb : yb y = cc) (hg : decode cc pc = .ok (.invokevirtual index, 3)) : IOK P yn yb yr yh l y pc (pClone t (pc + 3)) := ⟨gr_pClone, fun p e R s m args below meth c Q x0 s0 d G ls st h => k_clone (h.own ho) (h.ws _ hl) (h.ws _ hsame) (h.ws _ hnat) (h.ws _ hinst) (h.ws _ hsel) (h.tk.1 _ hcl) had hta h.1 (h.2.1.trans hb) hg h.fr h.lo⟩
/-- handlers: their rows tell the table -/
def TBX (P : Prog) (yn : Nat → MethodName) (yh : Nat → List (Nat × Nat × Nat × Nat)) (y pc : Nat) : Prop := ∀ (s : State) (args : Array Value), (∀ w ∈ lw_all, w.before args s = true) → TK s → TB s args (yn y).cls (tableOf (yh y)) pc (P.2.2 y pc)
theorem i_throw (hT : TBX P yn yh y pc) (hb : yb y = cc) (hg : decode cc pc = .ok (.athrow, 1)) : IOK P yn yb yr yh l y pc pThrow := ⟨gr_pThrow, fun p e R s m args below meth c Q x0 s0 d G ls st h => k_throw h.2.2.2.2.1 h.tab (hT s args h.ws h.tk) h.lk h.1 (h.2.1.trans hb) hg⟩
/-- a callee -/
theorem MOK.code {y' : Nat} (h : MOK P yn yb yr yh y') : CodeL (yn y') (yb y') (P.1 y') (yr y') := h.2.elim (fun q => Or.inl q.2) (fun q => Or.inr ⟨_, q⟩)
def CE (P : Prog) (yn : Nat → MethodName) (yb : Nat → ByteArray) (yr : Nat → Option FieldType) (yh : Nat → List (Nat × Nat × Nat × Nat)) (y' : Nat) : Prop := MOK P yn yb yr yh y' ∧ P.1 y' ≤ 111 ∧ npoly (yn y').cls
theorem take_len {st : List Value} {k : Nat} {b : Value} {rest : List Value} (h : st.drop k = b :: rest) : (st.take k).reverse.length = k := by
  have : k < st.length := by
    apply Nat.lt_of_not_le
    intro z
    rw [List.drop_eq_nil_of_le z] at h
    cases h
  rw [List.length_reverse, List.length_take]
  omega
theorem i_callS {y' k index : Nat} {own : String} (ho : (yn y).cls = own) (hce : CE P yn yb yr yh y') (hl : LkM own index (yn y')) (hst : Cond.static (yn y') ∈ lw_all) (hini : Cond.initialized (yn y').cls ∈ lw_all) (har : arity (yn y') k) (hT : TBX P yn yh y pc) (hb : yb y = cc) (hg : decode cc pc = .ok (.invokestatic index, 3)) : IOK P yn yb yr yh l y pc (pCallS y' k (pc + 3)) := ⟨gr_pCallS hce.1, fun p e R s m args below meth c Q x0 s0 d G ls st h => by
  unfold pCallS
  refine k_if (fun h0 => ?_) (fun _ => k_no)
  simp only [Bool.and_eq_true, decide_eq_true_eq] at h0
  obtain ⟨c1, c3, c4⟩ := hce
  refine k_call yn rfl h.ws h.tk c1.code c3 h.fr h.lo (Nat.le_trans (cat_sum _) (by omega)) h.2.2.2.2.1 h.tab (hT s args h.ws h.tk) h.lk rfl fun lsA H e1 e2 => ?_
  have hk : (st.take k).reverse.length = k := by rw [List.length_reverse, List.length_take]; omega
  have w := into_S (p := p) (l := l) (e := e) (R := R) (below := below) (meth := meth) (H := H) (lsA := lsA) (As := (st.take k).reverse) (rest := st.drop k) h.ws c1.code (h.own ho) h.1 (h.2.1.trans hb) (hl.use h.tk) hst hini c4 (by rw [hk]; exact har) hg
  rw [List.reverse_reverse, List.take_append_drop] at w
  exact w⟩
theorem i_callI {y' k index : Nat} {own : String} (ho : (yn y).cls = own) (hce : CE P yn yb yr yh y') (hc0 : Cond.code (yn y') (yb y') (P.1 y') none ∈ lw_all) (hl : LkM own index (yn y')) (hin : Cond.instanceMethod (yn y') ∈ lw_all) (hy1 : (yn y').name = "<init>") (har : arity (yn y') k) (hT : TBX P yn yh y pc) (hb : yb y = cc) (hg : decode cc pc = .ok (.invokespecial index, 3)) : IOK P yn yb yr yh l y pc (pCallI y' k (pc + 3)) := ⟨gr_pCallI hce.1, fun p e R s m args below meth c Q x0 s0 d G ls st h => by
  unfold pCallI
  split
  · rename_i b rest heq
    refine k_if (fun h0 => ?_) (fun _ => k_no)
    obtain ⟨c1, c3, c4⟩ := hce
    refine k_call yn rfl h.ws h.tk c1.code c3 h.fr h.lo (Nat.le_trans (cat_sum _) (by omega)) h.2.2.2.2.1 h.tab (hT s args h.ws h.tk) h.lk rfl fun lsA H e1 e2 => ?_
    have w := into_I (p := p) (l := l) (e := e) (R := R) (below := below) (meth := meth) (H := H) (lsA := lsA) (As := (st.take k).reverse) (rest := rest) (b := b) h.ws hc0 (h.own ho) h.1 (h.2.1.trans hb) (hl.use h.tk) hin hy1 c4 (by rw [take_len heq]; exact har) e1.sz hg
    rw [List.reverse_reverse, ← heq, List.take_append_drop] at w
    exact w
  · exact k_no⟩
theorem i_callSU {y' k index t : Nat} {own : String} (ho : (yn y).cls = own) (hce : CE P yn yb yr yh y') (hl : Cond.methodLink own index (yn y') ∈ lw_all) (hsame : Cond.sameMethod (yn y').cls (yn y').cls (yn y').name (yn y').desc ∈ lw_all) (hsup : Cond.superclass own (yn y').cls ∈ lw_all) (hin : Cond.instanceMethod (yn y') ∈ lw_all) (hno : (yn y').name ≠ "<init>") (har : arity (yn y') k) (hT : TBX P yn yh y pc) (hb : yb y = cc) (hg : decode cc pc = .ok (.invokespecial index, 3)) (ht : tcl t = true) : IOK P yn yb yr yh l y pc (pCallV [(t, y')] k (pc + 3)) := ⟨gr_pCallV (fun q hq => by rw [List.mem_singleton.mp hq]; exact hce.1), fun p e R s m args below meth c Q x0 s0 d G ls st h => by
  unfold pCallV
  split
  · rename_i b rest heq
    refine k_if (fun h0 => ?_) (fun _ => k_no)
    split
    · rename_i z hz
      have hz' := fk_all (P := fun t z => tcl t = true ∧ z = y') (tk := [(t, y')]) (fun q hq => by rw [List.mem_singleton.mp hq]; exact ⟨ht, rfl⟩) hz
      obtain ⟨ht', rfl⟩ := hz'
      obtain ⟨c1, c3, c4⟩ := hce
      refine k_call yn rfl h.ws h.tk c1.code c3 h.fr h.lo (Nat.le_trans (cat_sum _) (by omega)) h.2.2.2.2.1 h.tab (hT s args h.ws h.tk) h.lk rfl fun lsA H e1 e2 => ?_
      have w := into_SU (p := p) (l := l) (e := e) (R := R) (below := below) (meth := meth) (H := H) (lsA := lsA) (As := (st.take k).reverse) (rest := rest) (b := b) h.ws c1.code (h.own ho) h.1 (h.2.1.trans hb) hl hsame hsup hin hno (by rw [take_len heq]; exact har) (e2.obj ht') hg
      rw [List.reverse_reverse, ← heq, List.take_append_drop] at w
      exact w
    · exact k_no
  · exact k_no⟩
def DeclK (x : MethodName) : Prop := (Cond.instanceMethod x ∈ lw_all ∧ ∃ b m r, Cond.code x b m r ∈ lw_all) ∨ x ∈ tkD
theorem DeclK.use {s : State} {args : Array Value} {x : MethodName} (hts : ∀ w ∈ lw_all, w.before args s = true) (htk : TK s) (h : DeclK x) : va_Decl s x := by
  rcases h with ⟨h1, b, m, r, h2⟩ | h
  · exact va_Decl.of (hts _ h1) (hts _ h2)
  · exact va_Decl.abs (htk.2.2.2.2.2.2.1 _ h)
def Wd (w : Cond) : Prop := w ∈ lw_all ∨ w ∈ tkW
theorem Wd.use {s : State} {args : Array Value} {w : Cond} (hts : ∀ w ∈ lw_all, w.before args s = true) (htk : TK s) (h : Wd w) : w.before args s = true := by
  rcases h with h | h
  · exact hts _ h
  · obtain ⟨h1, -, h2⟩ := htk.2.2.2.2.2.2.2.1 _ h
    exact va_Nw.use h1 h2
/-- a callee by the receiver's class -/
def VC (P : Prog) (yn : Nat → MethodName) (yb : Nat → ByteArray) (yr : Nat → Option FieldType) (yh : Nat → List (Nat × Nat × Nat × Nat)) (own : String) (index k t y' : Nat) : Prop := tcl t = true ∧ CE P yn yb yr yh y' ∧ Cond.instanceMethod (yn y') ∈ lw_all ∧
  ((LkM own index (yn y') ∧ Cond.selects (cNm t) (yn y') (yn y') ∈ lw_all ∧ arity (yn y') k) ∨
   ∃ (x : MethodName) (owner : String), Wd (.methodLink own index x) ∧ Wd (.sameMethod x.cls owner x.name x.desc) ∧ DeclK ⟨owner, x.name, x.desc⟩ ∧ npoly owner ∧ (Cond.selects (cNm t) x (yn y') ∈ lw_all ∨ Cond.selects (cNm t) ⟨owner, x.name, x.desc⟩ (yn y') ∈ lw_all) ∧ arity x k)
theorem i_callV {tk : List (Nat × Nat)} {k index : Nat} {own : String} (ho : (yn y).cls = own) (hv : Fl2 (VC P yn yb yr yh own index k) tk) (hT : TBX P yn yh y pc) (hb : yb y = cc) (hg : decode cc pc = .ok (.invokevirtual index, 3)) : IOK P yn yb yr yh l y pc (pCallV tk k (pc + 3)) := ⟨gr_pCallV (fun q hq => (hv.all q hq).2.1.1), fun p e R s m args below meth c Q x0 s0 d G ls st h => by
  unfold pCallV
  split
  · rename_i b rest heq
    refine k_if (fun h0 => ?_) (fun _ => k_no)
    split
    · rename_i y' hz
      obtain ⟨ht, ⟨c1, c3, c4⟩, hin, hkind⟩ := fk_all (P := VC P yn yb yr yh own index k) hv.all hz
      refine k_call yn rfl h.ws h.tk c1.code c3 h.fr h.lo (Nat.le_trans (cat_sum _) (by omega)) h.2.2.2.2.1 h.tab (hT s args h.ws h.tk) h.lk rfl fun lsA H e1 e2 => ?_
      rcases hkind with ⟨hl, hse, har⟩ | ⟨x, owner, hl, hsm, hd, hnp, hse, har⟩
      · have w := into_V (p := p) (l := l) (e := e) (R := R) (below := below) (meth := meth) (H := H) (lsA := lsA) (As := (st.take k).reverse) (rest := rest) (b := b) h.ws c1.code (h.own ho) h.1 (h.2.1.trans hb) (hl.use h.tk) hin hse c4 (by rw [take_len heq]; exact har) (e2.obj ht) hg
        rw [List.reverse_reverse, ← heq, List.take_append_drop] at w
        exact w
      · have w := into_U (p := p) (l := l) (e := e) (R := R) (below := below) (meth := meth) (H := H) (lsA := lsA) (As := (st.take k).reverse) (rest := rest) (b := b) h.ws c1.code (h.own ho) h.1 (h.2.1.trans hb) (hl.use h.ws h.tk) (hsm.use h.ws h.tk) (hd.use h.ws h.tk) hnp hin hse (by rw [take_len heq]; exact har) (e2.obj ht) hg
        rw [List.reverse_reverse, ← heq, List.take_append_drop] at w
        exact w
    · exact k_no
  · exact k_no⟩
def FC (P : Prog) (yn : Nat → MethodName) (yb : Nat → ByteArray) (yr : Nat → Option FieldType) (yh : Nat → List (Nat × Nat × Nat × Nat)) (own : String) (index k t y' : Nat) : Prop := tcl t = true ∧ CE P yn yb yr yh y' ∧ Cond.instanceMethod (yn y') ∈ lw_all ∧
  ∃ x : MethodName, Cond.methodLink own index x ∈ lw_all ∧ (cNm t, x, yn y') ∈ tkF ∧ Cond.selects (cNm t) x (yn y') ∈ lw_all ∧ arity x k
theorem i_callF {tk : List (Nat × Nat)} {k index count : Nat} {own : String} (ho : (yn y).cls = own) (hv : Fl2 (FC P yn yb yr yh own index k) tk) (hT : TBX P yn yh y pc) (hb : yb y = cc) (hg : decode cc pc = .ok (.invokeinterface index count, 5)) : IOK P yn yb yr yh l y pc (pCallV tk k (pc + 5)) := ⟨gr_pCallV (fun q hq => (hv.all q hq).2.1.1), fun p e R s m args below meth c Q x0 s0 d G ls st h => by
  unfold pCallV
  split
  · rename_i b rest heq
    refine k_if (fun h0 => ?_) (fun _ => k_no)
    split
    · rename_i y' hz
      obtain ⟨ht, ⟨c1, c3, c4⟩, hin, x, hl, hF, hse, har⟩ := fk_all (P := FC P yn yb yr yh own index k) hv.all hz
      refine k_call yn rfl h.ws h.tk c1.code c3 h.fr h.lo (Nat.le_trans (cat_sum _) (by omega)) h.2.2.2.2.1 h.tab (hT s args h.ws h.tk) h.lk rfl fun lsA H e1 e2 => ?_
      have w := into_F (p := p) (l := l) (e := e) (R := R) (below := below) (meth := meth) (H := H) (lsA := lsA) (As := (st.take k).reverse) (rest := rest) (b := b) h.ws (h.own ho) h.1 (h.2.1.trans hb) hl (h.tk.2.2.2.2.2.1 _ hF) hin hse (by rw [take_len heq]; exact har) (e2.obj ht) hg
      rw [List.reverse_reverse, ← heq, List.take_append_drop] at w
      exact w
    · exact k_no
  · exact k_no⟩
theorem i_getC {t : Nat} {q : Nat × String} {own : String} {index : Nat} (hq : q ∈ sMir) (ht : tar t = true) (hC : q.2 = "[" ++ (aTy t).toString) (ho : (yn y).cls = own) (hl : Cond.methodLink own index ⟨"java/lang/Object", "getClass", "()Ljava/lang/Class;"⟩ ∈ lw_all) (hs : Cond.sameMethod "java/lang/Object" "java/lang/Object" "getClass" "()Ljava/lang/Class;" ∈ lw_all) (hn : Cond.native ⟨"java/lang/Object", "getClass", "()Ljava/lang/Class;"⟩ ∈ lw_all) (hi : Cond.instanceMethod ⟨"java/lang/Object", "getClass", "()Ljava/lang/Class;"⟩ ∈ lw_all) (hse : Cond.selects q.2 ⟨"java/lang/Object", "getClass", "()Ljava/lang/Class;"⟩ ⟨"java/lang/Object", "getClass", "()Ljava/lang/Class;"⟩ ∈ lw_all) (hb : yb y = cc) (hg : decode cc pc = .ok (.invokevirtual index, 3)) : IOK P yn yb yr yh l y pc (pGetC t q.1 (pc + 3)) := ⟨gr_pGetC, fun p e R s m args below meth c Q x0 s0 d G ls st h =>
  k_getC hq ht hC (h.own ho) (h.ws _ hl) (h.ws _ hs) (h.ws _ hn) (h.ws _ hi) (h.ws _ hse) h.1 (h.2.1.trans hb) hg h.fr h.lo⟩
theorem i_ldcM {q : Nat × String} {own : String} {index : Nat} (hq : q ∈ sMir) (ho : (yn y).cls = own) (hl : Cond.classLink own index q.2 ∈ lw_all) (hb : yb y = cc) (hg : decode cc pc = .ok (.ldc index, 2)) : IOK P yn yb yr yh l y pc (pSt q.1 (pc + 2)) := ⟨gr_pSt, fun p e R s m args below meth c Q x0 s0 d G ls st h => k_ldcM hq (h.own ho) (h.ws _ hl) h.1 (h.2.1.trans hb) hg⟩
theorem i_cacheLd {j : Nat} (hj : j = jcI) (hb : yb y = cc) (hg : decode cc pc = .ok (.aaload, 1)) : IOK P yn yb yr yh l y pc (pCacheLd j (pc + 1)) := ⟨gr_pCacheLd, fun p e R s m args below meth c Q x0 s0 d G ls st h => by subst hj; exact k_cacheLd h.1 (h.2.1.trans hb) hg⟩
theorem i_callP {y' k index t : Nat} {own C2 : String} {x2 y2 : MethodName} (ho : (yn y).cls = own) (hce : CE P yn yb yr yh y') (hl : Cond.methodLink own index (yn y') ∈ lw_all) (hin : Cond.instanceMethod (yn y') ∈ lw_all) (hpr : yn y' ∈ tkP) (hse : Cond.selects C2 x2 y2 ∈ lw_all) (hcl : y2.cls = (yn y').cls) (har : arity (yn y') k) (hT : TBX P yn yh y pc) (hb : yb y = cc) (hg : decode cc pc = .ok (.invokevirtual index, 3)) (ht : tcl t = true) : IOK P yn yb yr yh l y pc (pCallV [(t, y')] k (pc + 3)) := ⟨gr_pCallV (fun q hq => by rw [List.mem_singleton.mp hq]; exact hce.1), fun p e R s m args below meth c Q x0 s0 d G ls st h => by
  obtain ⟨c1, c3, c4⟩ := hce
  unfold pCallV
  split
  · rename_i b rest heq
    refine k_if (fun h0 => ?_) (fun _ => k_no)
    split
    · rename_i z hz
      have hz' := fk_all (P := fun t z => tcl t = true ∧ z = y') (tk := [(t, y')]) (fun q hq => by rw [List.mem_singleton.mp hq]; exact ⟨ht, rfl⟩) hz
      obtain ⟨ht', rfl⟩ := hz'
      refine k_call yn rfl h.ws h.tk c1.code c3 h.fr h.lo (Nat.le_trans (cat_sum _) (by omega)) h.2.2.2.2.1 h.tab (hT s args h.ws h.tk) h.lk rfl fun lsA H e1 e2 => ?_
      have w := into_P (p := p) (l := l) (e := e) (R := R) (below := below) (meth := meth) (H := H) (lsA := lsA) (As := (st.take k).reverse) (rest := rest) (b := b) h.ws c1.code (h.own ho) h.1 (h.2.1.trans hb) hl hin (h.tk.2.2.2.2.2.2.2.2 _ hpr) hse hcl c4 (by rw [take_len heq]; exact har) (e2.obj ht') hg
      rw [List.reverse_reverse, ← heq, List.take_append_drop] at w
      exact w
    · exact k_no
  · exact k_no⟩
theorem i_lamC {t index : Nat} (ht : tlm t = true) (h28 : t ≤ 28) (hn : yn y = (lm4 t).1) (hpc : pc = (lm4 t).2.1) (hb : yb y = cc) (hg : decode cc pc = .ok (.invokedynamic index, 5)) : IOK P yn yb yr yh l y pc (pLamC (300 + t) (pc + 5)) := ⟨gr_pLamC, fun p e R s m args below meth c Q x0 s0 d G ls st h =>
  k_lamC ht h28 (by rw [← hn]; exact h.named) hpc h.1 (h.2.1.trans hb) hg h.lo⟩
theorem i_lamM {t index : Nat} (ht : tlm t = true) (h28 : ¬ t ≤ 28) (h31 : t ≤ 31) (hn : yn y = (lm4 t).1) (hpc : pc = (lm4 t).2.1) (hix : index = (lm4 t).2.2.1) (h0 : Cond.instantiable "java/lang/Object" 0 ∈ lw_all) (hb : yb y = cc) (hg : decode cc pc = .ok (.invokedynamic index, 5)) : IOK P yn yb yr yh l y pc (pLamM t (pc + 5)) := ⟨gr_pLamM, fun p e R s m args below meth c Q x0 s0 d G ls st h => by
  unfold pLamM
  split
  · rename_i b rest
    refine k_if (fun hr => ?_) (fun _ => k_no)
    have hr := of_decide_eq_true hr
    have hL : lmL t = 1 := by rcases lm_all ht with rfl | rfl | rfl | rfl | rfl | rfl <;> first | (exfalso; omega) | rfl
    have hC : ∃ C, lmTy t 0 = .object C := by rcases lm_all ht with rfl | rfl | rfl | rfl | rfl | rfl <;> first | (exfalso; omega) | exact ⟨_, rfl⟩
    obtain ⟨C, hC⟩ := hC
    exact k_lamG (vals := [.ref b]) (rest := rest) (G' := sR (nw G t 1) (gX G) 0 (some b)) ht h28 (by rw [← hn]; exact h.named) hpc hix (h.ws _ h0) h.1 (h.2.1.trans hb) hg h.lo (by simp; omega) (by rw [hL]; rfl)
      (fun k hk => by
        have : k = 0 := by omega
        subst this
        rw [hC]
        exact ⟨_, rfl, rfl, rfl, congrArg va_rf up2_eq⟩)
      rfl rfl (by rw [hL]; rfl) (fun q e => nw_oT (G := G) (t := t) (n := 1) e) (fun q e => nw_oN (G := G) (t := t) (n := 1) e) (fun q k e => nw_oI (G := G) (t := t) (n := 1) e) (fun q k e => nw_oJ (G := G) (t := t) (n := 1) e) (fun q k e => (up2_ne (fun z => e z.1)).trans (nw_oR (G := G) (t := t) (n := 1) e)) (nw_T (G := G) (t := t) (n := 1))
  · exact k_no⟩
theorem i_lamN {t index : Nat} (ht : t = 32) (hn : yn y = (lm4 t).1) (hpc : pc = (lm4 t).2.1) (hix : index = (lm4 t).2.2.1) (h0 : Cond.instantiable "java/lang/Object" 0 ∈ lw_all) (hb : yb y = cc) (hg : decode cc pc = .ok (.invokedynamic index, 5)) : IOK P yn yb yr yh l y pc (pLamN t (pc + 5)) := ⟨gr_pLamN, fun p e R s m args below meth c Q x0 s0 d G ls st h => by
  subst ht
  unfold pLamN
  split
  · rename_i x b rest
    refine k_if (fun hr => ?_) (fun _ => k_no)
    have hr := of_decide_eq_true hr
    exact k_lamG (vals := [.ref b, .int x]) (rest := rest) (G' := sI (sR (nw G 32 2) (gX G) 0 (some b)) (gX G) 1 x) rfl (by decide) (by rw [← hn]; exact h.named) hpc hix (h.ws _ h0) h.1 (h.2.1.trans hb) hg h.lo (by simp; omega) rfl
      (fun k hk => by
        have hk' : k < 2 := hk
        have : k = 0 ∨ k = 1 := by omega
        rcases this with rfl | rfl
        · exact ⟨_, rfl, rfl, rfl, congrArg va_rf up2_eq⟩
        · exact ⟨_, rfl, rfl, rfl, congrArg Value.int up2_eq⟩)
      rfl rfl rfl (fun q e => nw_oT (G := G) (t := 32) (n := 2) e) (fun q e => nw_oN (G := G) (t := 32) (n := 2) e) (fun q k e => (up2_ne (fun z => e z.1)).trans (nw_oI (G := G) (t := 32) (n := 2) e)) (fun q k e => nw_oJ (G := G) (t := 32) (n := 2) e) (fun q k e => (up2_ne (fun z => e z.1)).trans (nw_oR (G := G) (t := 32) (n := 2) e)) (nw_T (G := G) (t := 32) (n := 2))
  · exact k_no⟩
def LC (P : Prog) (yn : Nat → MethodName) (yb : Nat → ByteArray) (yr : Nat → Option FieldType) (yh : Nat → List (Nat × Nat × Nat × Nat)) (own : String) (index t y' : Nat) : Prop := tlm t = true ∧ (MOK P yn yb yr yh y' ∧ P.1 y' ≤ 111 ∧ npoly (yn y').cls) ∧ yn y' = lmY t ∧ yr y' = lmRet t ∧
  ((t ≤ 28 ∧ Cond.static (lmY t) ∈ lw_all ∧ Cond.initialized (lmY t).cls ∈ lw_all) ∨ (¬ t ≤ 28 ∧ Cond.instanceMethod (lmY t) ∈ lw_all ∧ Cond.selects (cNm (lmTg t)) (lmY t) (lmY t) ∈ lw_all)) ∧ Cond.methodLink own index ⟨lmIf t, lmNm t, lmDs t⟩ ∈ lw_all
theorem i_callL {tk : List (Nat × Nat)} {index count : Nat} {own : String} (ho : (yn y).cls = own) (hv : Fl2 (LC P yn yb yr yh own index) tk) (h00 : Cond.instantiable "java/lang/Object" 0 ∈ lw_all) (hT : TBX P yn yh y pc) (hb : yb y = cc) (hg : decode cc pc = .ok (.invokeinterface index count, 5)) : IOK P yn yb yr yh l y pc (pCallL tk (pc + 5)) := ⟨gr_pCallL (fun q hq => (hv.all q hq).2.1.1), fun p e R s m args below meth c Q x0 s0 d G ls st h => by
  unfold pCallL
  split
  · rename_i x b rest
    refine k_if (fun h0 => ?_) (fun _ => k_no)
    simp only [Bool.and_eq_true, decide_eq_true_eq] at h0
    split
    · rename_i y' hz
      obtain ⟨ht, ⟨hm, hmx, -⟩, hy, hr, hw, hl⟩ := fk_all (P := LC P yn yb yr yh own index) hv.all hz
      have hw : LMW (gT G b) (yb y') (P.1 y') := by
        refine ⟨by rw [← hy, ← hr]; exact hm.code, hmx, ?_⟩
        rcases hw with ⟨a1, a2, a3⟩ | ⟨a1, a2, a3⟩
        · rw [if_pos a1]; exact ⟨a2, a3⟩
        · rw [if_neg a1]; exact ⟨a2, a3⟩
      exact k_callL yn yr hy hr ht h.ws h.tk hw h00 rfl hl h.fr h.lo h0.1 (h.own ho) h.tab ((by have q := hT s args h.ws h.tk; rw [ho] at q; exact q)) h.lk rfl h.1 (h.2.1.trans hb) hg rfl h0.2.2 h0.2.1
    · exact k_no
  · exact k_no⟩
theorem i_no : IOK P yn yb yr yh l y pc pNo := ⟨fun _ _ _ => trivial, fun p e R s m args below meth c Q x0 s0 d G ls st h => k_no⟩
/-- all of a table's instructions -/
def AOK (P : Prog) (yn : Nat → MethodName) (yb : Nat → ByteArray) (yr : Nat → Option FieldType) (yh : Nat → List (Nat × Nat × Nat × Nat)) (l : Launch) (y : Nat) : List (Nat × PI) → Prop
  | [] => True
  | q :: r => IOK P yn yb yr yh l y q.1 q.2 ∧ AOK P yn yb yr yh l y r
theorem AOK.nil {y : Nat} : AOK P yn yb yr yh l y [] := trivial
theorem AOK.cons {y pc : Nat} {pi : PI} {r : List (Nat × PI)} (h : IOK P yn yb yr yh l y pc pi) (h' : AOK P yn yb yr yh l y r) : AOK P yn yb yr yh l y ((pc, pi) :: r) := ⟨h, h'⟩
def MAOK (P : Prog) (yn : Nat → MethodName) (yb : Nat → ByteArray) (yr : Nat → Option FieldType) (yh : Nat → List (Nat × Nat × Nat × Nat)) (l : Launch) (y : Nat) : List (List (Nat × PI)) → Prop
  | [] => True
  | q :: r => AOK P yn yb yr yh l y q ∧ MAOK P yn yb yr yh l y r
def BOK (P : Prog) (yn : Nat → MethodName) (yb : Nat → ByteArray) (yr : Nat → Option FieldType) (yh : Nat → List (Nat × Nat × Nat × Nat)) (l : Launch) : Nat → List (List (List (Nat × PI))) → Prop
  | _, [] => True
  | y, q :: r => MAOK P yn yb yr yh l y q ∧ BOK P yn yb yr yh l (y + 1) r
theorem i_tsw' {dflt lo hi : Int} {offs : Array Int} {len df : Nat} {cs : List (Int32 × Nat)} (hb : yb y = cc) (hg : decode cc pc = .ok (.tableswitch dflt lo hi offs, len)) (hs : tsw cs pc lo offs.toList = true) (hn : hi = lo + offs.size - 1) (hf : (pc : Int) + dflt = (df : Int)) : IOK P yn yb yr yh l y pc (pSw cs df) := i_tsw hs hn hf hb hg
theorem i_lsw' {dflt : Int} {ps : Array (Int × Int)} {len df : Nat} {cs : List (Int32 × Nat)} (hb : yb y = cc) (hg : decode cc pc = .ok (.lookupswitch dflt ps, len)) (hs : lsw cs pc ps.toList = true) (hp : (ps.toList.zip (ps.toList.drop 1)).all (fun (a, next) => a.1 < next.1) = true) (hf : (pc : Int) + dflt = (df : Int)) : IOK P yn yb yr yh l y pc (pSw cs df) := i_lsw hs hp hf hb hg
theorem i_throw0 {t ik ic : Nat} {own : String} {names : List String} (ho : (yn y).cls = own) (ht : tx0 t = true) (hcls : Bundle.fit (cNm t) = true) (hnames : ∀ n ∈ names, Bundle.fit n = true) (hnl : names.length ≤ 6)
    (hk : Cond.classLink own ik (cNm t) ∈ lw_all) (hini : Cond.initialized (cNm t) ∈ lw_all) (hat : ∀ w ∈ vx_at0 own ic (cNm t) names, w ∈ lw_all ∨ (∃ q ∈ tkC, w = .castable q.1 q.2) ∨ ∃ x ∈ tkD, w = .declares x) (hgood : ∀ w ∈ Cond.classLink own ik (cNm t) :: Cond.initialized (cNm t) :: vx_at0 own ic (cNm t) names, vx_ot w = true)
    (hyh : yh y = []) (hno : ∀ t, P.2.2 y pc t = none) (hb : yb y = cc) (d0 : decode cc pc = .ok (.new ik, 3)) (d3 : decode cc (pc + 3) = .ok (.dup, 1)) (d4 : decode cc (pc + 4) = .ok (.invokespecial ic, 3)) (d7 : decode cc (pc + 7) = .ok (.athrow, 1)) : IOK P yn yb yr yh l y pc (pThrow0 t) := ⟨gr_pThrow0, fun p e R s m args below meth c Q x0 s0 d G ls st h => by
  unfold pThrow0
  refine k_if (fun h0 => ?_) (fun _ => k_no)
  exact k_throw0 ht h.tr (h.own ho) hcls hnames hnl (h.ws _ hk) (h.ws _ hini) (fun w hw => by
    rcases hat w hw with q | ⟨q, h1, h2⟩ | ⟨q, h1, h2⟩
    · exact h.ws _ q
    · rw [h2]; exact va_Nw.use (A := args) rfl (h.tk.1 _ h1)
    · rw [h2]; exact va_Nw.use (A := args) rfl (h.tk.2.2.2.2.2.2.1 _ h1)) hgood h.lk (by rw [h.tab, hyh]; intro x hx; cases hx) hno h.fr h.lo h0 h.1 (h.2.1.trans hb) d0 d3 d4 d7⟩
end IOKS

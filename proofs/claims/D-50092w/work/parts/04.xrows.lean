/-! what each instruction does to a run: one law an instruction -/
section XR
variable {P : Prog} {d y pc n : Nat} {ls st : List Value} {G : Hp}
theorem x_K {v : Value} (h : P.2.1 y pc = pK v n) : XP P d y pc ls st G = XP P d y n ls (v :: st) G := XP_J (by rw [h]; rfl)
theorem x_iload {i : Nat} {x : Int32} (h : P.2.1 y pc = pIload i n) (hl : ls.getD i UV = .int x) : XP P d y pc ls st G = XP P d y n ls (.int x :: st) G := XP_J (by rw [h]; unfold pIload; rw [hl])
theorem x_lload {i : Nat} {x : Int64} (h : P.2.1 y pc = pLload i n) (hl : ls.getD i UV = .long x) : XP P d y pc ls st G = XP P d y n ls (.long x :: st) G := XP_J (by rw [h]; unfold pLload; rw [hl])
theorem x_fload {i : Nat} {x : UInt32} (h : P.2.1 y pc = pFload i n) (hl : ls.getD i UV = .float x) : XP P d y pc ls st G = XP P d y n ls (.float x :: st) G := XP_J (by rw [h]; unfold pFload; rw [hl])
theorem x_dload {i : Nat} {x : UInt64} (h : P.2.1 y pc = pDload i n) (hl : ls.getD i UV = .double x) : XP P d y pc ls st G = XP P d y n ls (.double x :: st) G := XP_J (by rw [h]; unfold pDload; rw [hl])
theorem x_aload {i : Nat} {v : Value} (h : P.2.1 y pc = pAload i n) (hl : ls.getD i UV = v) (hv : rf v = true) : XP P d y pc ls st G = XP P d y n ls (v :: st) G := by
  subst hl
  exact XP_J (by rw [h]; unfold pAload; rw [if_pos hv])
theorem oJ1 {i : Nat} {v : Value} {ls' : List Value} (hi : i < ls.length) (hc : c1 (ls.getD (i - 1) UV) = true) (hs : ls.set i v = ls') : oJ (lset1 ls i v) n st G = cJ n ls' st G := by
  unfold lset1
  rw [if_pos (by rw [hc, decide_eq_true hi]; rfl), hs]
  rfl
theorem oJ2 {i : Nat} {v : Value} {ls' : List Value} (hi : i + 1 < ls.length) (hc : c1 (ls.getD (i - 1) UV) = true) (hs : (ls.set i v).set (i + 1) UV = ls') : oJ (lset2 ls i v) n st G = cJ n ls' st G := by
  unfold lset2
  rw [if_pos (by rw [hc, decide_eq_true hi]; rfl), hs]
  rfl
theorem x_istore {i : Nat} {x : Int32} {ls' : List Value} (h : P.2.1 y pc = pIstore i n) (hi : i < ls.length) (hc : c1 (ls.getD (i - 1) UV) = true) (hs : ls.set i (.int x) = ls') : XP P d y pc ls (.int x :: st) G = XP P d y n ls' st G := XP_J (by rw [h]; exact oJ1 hi hc hs)
theorem x_fstore {i : Nat} {x : UInt32} {ls' : List Value} (h : P.2.1 y pc = pFstore i n) (hi : i < ls.length) (hc : c1 (ls.getD (i - 1) UV) = true) (hs : ls.set i (.float x) = ls') : XP P d y pc ls (.float x :: st) G = XP P d y n ls' st G := XP_J (by rw [h]; exact oJ1 hi hc hs)
theorem x_lstore {i : Nat} {x : Int64} {ls' : List Value} (h : P.2.1 y pc = pLstore i n) (hi : i + 1 < ls.length) (hc : c1 (ls.getD (i - 1) UV) = true) (hs : (ls.set i (.long x)).set (i + 1) UV = ls') : XP P d y pc ls (.long x :: st) G = XP P d y n ls' st G := XP_J (by rw [h]; exact oJ2 hi hc hs)
theorem x_dstore {i : Nat} {x : UInt64} {ls' : List Value} (h : P.2.1 y pc = pDstore i n) (hi : i + 1 < ls.length) (hc : c1 (ls.getD (i - 1) UV) = true) (hs : (ls.set i (.double x)).set (i + 1) UV = ls') : XP P d y pc ls (.double x :: st) G = XP P d y n ls' st G := XP_J (by rw [h]; exact oJ2 hi hc hs)
theorem x_astore {i : Nat} {v : Value} {ls' : List Value} (h : P.2.1 y pc = pAstore i n) (hv : rf v = true) (hi : i < ls.length) (hc : c1 (ls.getD (i - 1) UV) = true) (hs : ls.set i v = ls') : XP P d y pc ls (v :: st) G = XP P d y n ls' st G := XP_J (by rw [h]; unfold pAstore; dsimp only; rw [if_pos hv]; exact oJ1 hi hc hs)
theorem x_iinc {i : Nat} {x c : Int32} {ls' : List Value} (h : P.2.1 y pc = pIinc i c n) (hl : ls.getD i UV = .int x) (hi : i < ls.length) (hc : c1 (ls.getD (i - 1) UV) = true) (hs : ls.set i (.int (x + c)) = ls') : XP P d y pc ls st G = XP P d y n ls' st G := XP_J (by rw [h]; unfold pIinc; rw [hl]; exact oJ1 hi hc hs)
theorem x_i2 {f : Int32 → Int32 → Int32} {a b : Int32} (h : P.2.1 y pc = pI2 f n) : XP P d y pc ls (.int b :: .int a :: st) G = XP P d y n ls (.int (f a b) :: st) G := XP_J (by rw [h]; rfl)
theorem x_idiv {a b : Int32} (h : P.2.1 y pc = pIdiv n) (h0 : ¬ b = 0) : XP P d y pc ls (.int b :: .int a :: st) G = XP P d y n ls (.int (a / b) :: st) G := XP_J (by rw [h]; exact if_neg h0)
theorem x_irem {a b : Int32} (h : P.2.1 y pc = pIrem n) (h0 : ¬ b = 0) : XP P d y pc ls (.int b :: .int a :: st) G = XP P d y n ls (.int (a - a / b * b) :: st) G := XP_J (by rw [h]; exact if_neg h0)
theorem x_i1 {f : Int32 → Value} {a : Int32} (h : P.2.1 y pc = pI1 f n) : XP P d y pc ls (.int a :: st) G = XP P d y n ls (f a :: st) G := XP_J (by rw [h]; rfl)
theorem x_l2 {f : Int64 → Int64 → Int64} {a b : Int64} (h : P.2.1 y pc = pL2 f n) : XP P d y pc ls (.long b :: .long a :: st) G = XP P d y n ls (.long (f a b) :: st) G := XP_J (by rw [h]; rfl)
theorem x_lI {f : Int64 → Int32 → Int64} {a : Int64} {b : Int32} (h : P.2.1 y pc = pLI f n) : XP P d y pc ls (.int b :: .long a :: st) G = XP P d y n ls (.long (f a b) :: st) G := XP_J (by rw [h]; rfl)
theorem x_lcmp {a b : Int64} (h : P.2.1 y pc = pLcmp n) : XP P d y pc ls (.long b :: .long a :: st) G = XP P d y n ls (.int (lg_cmp a b) :: st) G := XP_J (by rw [h]; rfl)
theorem x_l2i {a : Int64} (h : P.2.1 y pc = pL2i n) : XP P d y pc ls (.long a :: st) G = XP P d y n ls (.int a.toInt32 :: st) G := XP_J (by rw [h]; rfl)
theorem x_fdiv {a b : UInt32} (h : P.2.1 y pc = pFdiv n) (h0 : (FP.fdiv a b) &&& 0x7fffffff ≤ 0x7f800000) : XP P d y pc ls (.float b :: .float a :: st) G = XP P d y n ls (.float (FP.fdiv a b) :: st) G := XP_J (by rw [h]; exact if_pos h0)
theorem x_ddiv {a b : UInt64} (h : P.2.1 y pc = pDdiv n) (h0 : (FP.ddiv a b) &&& 0x7fffffffffffffff ≤ 0x7ff0000000000000) : XP P d y pc ls (.double b :: .double a :: st) G = XP P d y n ls (.double (FP.ddiv a b) :: st) G := XP_J (by rw [h]; exact if_pos h0)
theorem x_f2d {a : UInt32} (h : P.2.1 y pc = pF2d n) (h0 : (FP.f2d a) &&& 0x7fffffffffffffff ≤ 0x7ff0000000000000) : XP P d y pc ls (.float a :: st) G = XP P d y n ls (.double (FP.f2d a) :: st) G := XP_J (by rw [h]; exact if_pos h0)
theorem x_fcmp {op : CmpOp} {a b : UInt32} (h : P.2.1 y pc = pFcmp op n) : XP P d y pc ls (.float b :: .float a :: st) G = XP P d y n ls (.int (Op.cmpValue (FP.fcmp a b) op) :: st) G := XP_J (by rw [h]; rfl)
theorem x_dcmp {op : CmpOp} {a b : UInt64} (h : P.2.1 y pc = pDcmp op n) : XP P d y pc ls (.double b :: .double a :: st) G = XP P d y n ls (.int (Op.cmpValue (FP.dcmp a b) op) :: st) G := XP_J (by rw [h]; rfl)
theorem x_dup {v : Value} (h : P.2.1 y pc = pDup n) (hv : c1 v = true) : XP P d y pc ls (v :: st) G = XP P d y n ls (v :: v :: st) G := XP_J (by rw [h]; exact if_pos hv)
theorem x_pop {v : Value} (h : P.2.1 y pc = pPop n) (hv : c1 v = true) : XP P d y pc ls (v :: st) G = XP P d y n ls st G := XP_J (by rw [h]; exact if_pos hv)
theorem x_dupx1 {v w : Value} (h : P.2.1 y pc = pDupX1 n) (hv : c1 v = true) (hw : c1 w = true) : XP P d y pc ls (v :: w :: st) G = XP P d y n ls (v :: w :: v :: st) G := XP_J (by rw [h]; exact if_pos (by rw [hv, hw]; rfl))
theorem x_dup2 {v w : Value} (h : P.2.1 y pc = pDup2 n) (hv : c1 v = true) (hw : c1 w = true) : XP P d y pc ls (v :: w :: st) G = XP P d y n ls (v :: w :: v :: w :: st) G := XP_J (by rw [h]; exact if_pos (by rw [hv, hw]; rfl))
theorem x_goto {t : Nat} (h : P.2.1 y pc = pGoto t) : XP P d y pc ls st G = XP P d y t ls st G := XP_J (by rw [h]; rfl)
theorem x_if0 {c : Int32 → Bool} {t : Nat} {x : Int32} {p : Prop} [hd : Decidable p] (h : P.2.1 y pc = pIf0 c t n) (hp : c x = decide p) : XP P d y pc ls (.int x :: st) G = if p then XP P d y t ls st G else XP P d y n ls st G := by
  by_cases q : p
  · rw [if_pos q]
    exact XP_J (by rw [h]; unfold pIf0; dsimp only; rw [if_pos (by rw [hp]; exact decide_eq_true q)])
  · rw [if_neg q]
    exact XP_J (by rw [h]; unfold pIf0; dsimp only; rw [if_neg (by rw [hp, decide_eq_false q]; decide)])
theorem x_if2 {c : Int32 → Int32 → Bool} {t : Nat} {a b : Int32} {p : Prop} [hd : Decidable p] (h : P.2.1 y pc = pIf2 c t n) (hp : c a b = decide p) : XP P d y pc ls (.int b :: .int a :: st) G = if p then XP P d y t ls st G else XP P d y n ls st G := by
  by_cases q : p
  · rw [if_pos q]
    exact XP_J (by rw [h]; unfold pIf2; dsimp only; rw [if_pos (by rw [hp]; exact decide_eq_true q)])
  · rw [if_neg q]
    exact XP_J (by rw [h]; unfold pIf2; dsimp only; rw [if_neg (by rw [hp, decide_eq_false q]; decide)])
theorem x_ifN0 {t : Nat} (h : P.2.1 y pc = pIfN t n) : XP P d y pc ls (.null :: st) G = XP P d y t ls st G := XP_J (by rw [h]; rfl)
theorem x_ifN1 {t a : Nat} (h : P.2.1 y pc = pIfN t n) : XP P d y pc ls (.ref a :: st) G = XP P d y n ls st G := XP_J (by rw [h]; rfl)
theorem x_ifA {t : Nat} {v w : Value} (h : P.2.1 y pc = pIfA true t n) (hv : rf v = true) (hw : rf w = true) : XP P d y pc ls (w :: v :: st) G = if v = w then XP P d y t ls st G else XP P d y n ls st G := by
  by_cases q : v = w
  · rw [if_pos q]
    exact XP_J (by rw [h]; unfold pIfA; dsimp only; rw [if_pos (by rw [hv, hw]; rfl), if_pos (by rw [decide_eq_true q]; rfl)])
  · rw [if_neg q]
    exact XP_J (by rw [h]; unfold pIfA; dsimp only; rw [if_pos (by rw [hv, hw]; rfl), if_neg (by rw [decide_eq_false q]; decide)])
theorem x_ifB {t : Nat} {v w : Value} (h : P.2.1 y pc = pIfA false t n) (hv : rf v = true) (hw : rf w = true) : XP P d y pc ls (w :: v :: st) G = if v = w then XP P d y n ls st G else XP P d y t ls st G := by
  by_cases q : v = w
  · rw [if_pos q]
    exact XP_J (by rw [h]; unfold pIfA; dsimp only; rw [if_pos (by rw [hv, hw]; rfl), if_neg (by rw [decide_eq_true q]; decide)])
  · rw [if_neg q]
    exact XP_J (by rw [h]; unfold pIfA; dsimp only; rw [if_pos (by rw [hv, hw]; rfl), if_pos (by rw [decide_eq_false q]; rfl)])
theorem x_sw {cs : List (Int32 × Nat)} {t : Nat} {x : Int32} (h : P.2.1 y pc = pSw cs t) : XP P d y pc ls (.int x :: st) G = XP P d y (swi cs t x) ls st G := XP_J (by rw [h]; rfl)
theorem x_swc {c x : Int32} {t u : Nat} {r : List (Int32 × Nat)} : XP P d y (swi ((c, t) :: r) u x) ls st G = if x = c then XP P d y t ls st G else XP P d y (swi r u x) ls st G := by
  rw [swi]
  split <;> rfl
theorem x_swn {x : Int32} {u : Nat} : XP P d y (swi [] u x) ls st G = XP P d y u ls st G := id rfl
theorem x_retI {x : Int32} (h : P.2.1 y pc = pRetI) : XP P d y pc ls [.int x] G = some (.inl (some (.int x)), G) := XP_R (by rw [h]; rfl)
theorem x_retZ {x : Int32} (h : P.2.1 y pc = pRetZ) (hx : okZ x = true) : XP P d y pc ls [.int x] G = some (.inl (some (.int x)), G) := XP_R (by rw [h]; exact if_pos (of_decide_eq_true hx))
theorem x_retC {x : Int32} (h : P.2.1 y pc = pRetC) (hx : okC x = true) : XP P d y pc ls [.int x] G = some (.inl (some (.int x)), G) := XP_R (by rw [h]; exact if_pos (of_decide_eq_true hx))
theorem x_retB {x : Int32} (h : P.2.1 y pc = pRetB) (hx : okB x = true) : XP P d y pc ls [.int x] G = some (.inl (some (.int x)), G) := XP_R (by rw [h]; exact if_pos (of_decide_eq_true hx))
theorem x_retL {x : Int64} (h : P.2.1 y pc = pRetL) : XP P d y pc ls [.long x] G = some (.inl (some (.long x)), G) := XP_R (by rw [h]; rfl)
theorem x_retF {x : UInt32} (h : P.2.1 y pc = pRetF) : XP P d y pc ls [.float x] G = some (.inl (some (.float x)), G) := XP_R (by rw [h]; rfl)
theorem x_retD {x : UInt64} (h : P.2.1 y pc = pRetD) : XP P d y pc ls [.double x] G = some (.inl (some (.double x)), G) := XP_R (by rw [h]; rfl)
theorem x_retA {v : Value} (h : P.2.1 y pc = pRetA) (hv : rf v = true) : XP P d y pc ls [v] G = some (.inl (some v), G) := XP_R (by rw [h]; exact if_pos hv)
theorem x_ret (h : P.2.1 y pc = pRet) : XP P d y pc ls [] G = some (.inl none, G) := XP_R (by rw [h]; rfl)
theorem x_getI {tk : List (Nat × Nat)} {a t k : Nat} (h : P.2.1 y pc = pGetI tk n) (hk : fk tk t = some k) (ht : gT G a = t) : XP P d y pc ls (.ref a :: st) G = XP P d y n ls (.int (gI G a k) :: st) G := XP_J (by rw [h]; unfold pGetI pGet; dsimp only; rw [ht, hk]; rfl)
theorem x_getJ {tk : List (Nat × Nat)} {a t k : Nat} (h : P.2.1 y pc = pGetJ tk n) (hk : fk tk t = some k) (ht : gT G a = t) : XP P d y pc ls (.ref a :: st) G = XP P d y n ls (.long (gJ G a k) :: st) G := XP_J (by rw [h]; unfold pGetJ pGet; dsimp only; rw [ht, hk]; rfl)
theorem x_getR {tk : List (Nat × Nat)} {a t k : Nat} (h : P.2.1 y pc = pGetR tk n) (hk : fk tk t = some k) (ht : gT G a = t) : XP P d y pc ls (.ref a :: st) G = XP P d y n ls (va_rf (gR G a k) :: st) G := XP_J (by rw [h]; unfold pGetR pGet; dsimp only; rw [ht, hk]; rfl)
theorem x_putI {ok : Int32 → Bool} {tk : List (Nat × Nat)} {a t k : Nat} {x : Int32} (h : P.2.1 y pc = pPutI ok tk n) (hk : fk tk t = some k) (ht : gT G a = t) (hb : gB G ≤ a) (hx : ok x = true) : XP P d y pc ls (.int x :: .ref a :: st) G = XP P d y n ls st (sI G a k x) := XP_J (by rw [h]; unfold pPutI; dsimp only; rw [if_pos (by rw [hx, decide_eq_true hb]; rfl), ht, hk])
theorem x_putJ {tk : List (Nat × Nat)} {a t k : Nat} {x : Int64} (h : P.2.1 y pc = pPutJ tk n) (hk : fk tk t = some k) (ht : gT G a = t) (hb : gB G ≤ a) : XP P d y pc ls (.long x :: .ref a :: st) G = XP P d y n ls st (sJ G a k x) := XP_J (by rw [h]; unfold pPutJ; dsimp only; rw [if_pos hb, ht, hk])
theorem x_putR {tk : List (Nat × Nat)} {a t k : Nat} {v : Value} (h : P.2.1 y pc = pPutR tk n) (hk : fk tk t = some k) (ht : gT G a = t) (hb : gB G ≤ a) (hv : rf v = true) : XP P d y pc ls (v :: .ref a :: st) G = XP P d y n ls st (sR G a k (rvo v)) := XP_J (by rw [h]; unfold pPutR; dsimp only; rw [if_pos (by rw [hv, decide_eq_true hb]; rfl), ht, hk])
theorem x_iald {t a : Nat} {i : Int32} (h : P.2.1 y pc = pIald t n) (ht : gT G a = t) (hi : inb i (gN G a) = true) : XP P d y pc ls (.int i :: .ref a :: st) G = XP P d y n ls (.int (gI G a i.toNatClampNeg) :: st) G := XP_J (by rw [h]; unfold pIald; dsimp only; rw [if_pos (by rw [hi, decide_eq_true ht]; rfl)])
theorem x_lald {a : Nat} {i : Int32} (h : P.2.1 y pc = pLald n) (ht : gT G a = 101) (hi : inb i (gN G a) = true) : XP P d y pc ls (.int i :: .ref a :: st) G = XP P d y n ls (.long (gJ G a i.toNatClampNeg) :: st) G := XP_J (by rw [h]; unfold pLald; dsimp only; rw [if_pos (by rw [hi, decide_eq_true ht]; rfl)])
theorem x_dald {a : Nat} {i : Int32} (h : P.2.1 y pc = pDald n) (ht : gT G a = 103) (hi : inb i (gN G a) = true) : XP P d y pc ls (.int i :: .ref a :: st) G = XP P d y n ls (.double (gJ G a i.toNatClampNeg).toUInt64 :: st) G := XP_J (by rw [h]; unfold pDald; dsimp only; rw [if_pos (by rw [hi, decide_eq_true ht]; rfl)])
theorem x_aald {a : Nat} {i : Int32} (h : P.2.1 y pc = pAald n) (ht : 110 ≤ gT G a) (hi : inb i (gN G a) = true) : XP P d y pc ls (.int i :: .ref a :: st) G = XP P d y n ls (va_rf (gR G a i.toNatClampNeg) :: st) G := XP_J (by rw [h]; unfold pAald; dsimp only; rw [if_pos (by rw [hi, decide_eq_true ht]; rfl)])
theorem x_iast {a : Nat} {i x : Int32} (h : P.2.1 y pc = pIast n) (ht : gT G a = 100) (hi : inb i (gN G a) = true) (hb : gB G ≤ a) : XP P d y pc ls (.int x :: .int i :: .ref a :: st) G = XP P d y n ls st (sI G a i.toNatClampNeg x) := XP_J (by rw [h]; unfold pIast; dsimp only; rw [if_pos (by rw [hi, decide_eq_true ht, decide_eq_true hb]; rfl)])
theorem x_bast {a : Nat} {i x : Int32} (h : P.2.1 y pc = pBast n) (ht : gT G a = 102) (hi : inb i (gN G a) = true) (hb : gB G ≤ a) : XP P d y pc ls (.int x :: .int i :: .ref a :: st) G = XP P d y n ls st (sI G a i.toNatClampNeg x.toInt8.toInt32) := XP_J (by rw [h]; unfold pBast; dsimp only; rw [if_pos (by rw [hi, decide_eq_true ht, decide_eq_true hb]; rfl)])
theorem x_last {a : Nat} {i : Int32} {x : Int64} (h : P.2.1 y pc = pLast n) (ht : gT G a = 101) (hi : inb i (gN G a) = true) (hb : gB G ≤ a) : XP P d y pc ls (.long x :: .int i :: .ref a :: st) G = XP P d y n ls st (sJ G a i.toNatClampNeg x) := XP_J (by rw [h]; unfold pLast; dsimp only; rw [if_pos (by rw [hi, decide_eq_true ht, decide_eq_true hb]; rfl)])
theorem x_dast {a : Nat} {i : Int32} {x : UInt64} (h : P.2.1 y pc = pDast n) (ht : gT G a = 103) (hi : inb i (gN G a) = true) (hb : gB G ≤ a) : XP P d y pc ls (.double x :: .int i :: .ref a :: st) G = XP P d y n ls st (sJ G a i.toNatClampNeg x.toInt64) := XP_J (by rw [h]; unfold pDast; dsimp only; rw [if_pos (by rw [hi, decide_eq_true ht, decide_eq_true hb]; rfl)])
theorem x_aast {ok : Nat → Nat → Bool} {a b : Nat} {i : Int32} (h : P.2.1 y pc = pAast ok n) (ht : 110 ≤ gT G a) (hi : inb i (gN G a) = true) (hb : gB G ≤ a) (ho : ok (gT G a) (gT G b) = true) : XP P d y pc ls (.ref b :: .int i :: .ref a :: st) G = XP P d y n ls st (sR G a i.toNatClampNeg (some b)) := XP_J (by rw [h]; unfold pAast; dsimp only; rw [if_pos (by rw [hi, decide_eq_true ht, decide_eq_true hb, ho]; rfl)])
theorem x_aastN {ok : Nat → Nat → Bool} {a : Nat} {i : Int32} (h : P.2.1 y pc = pAast ok n) (ht : 110 ≤ gT G a) (hi : inb i (gN G a) = true) (hb : gB G ≤ a) : XP P d y pc ls (.null :: .int i :: .ref a :: st) G = XP P d y n ls st (sR G a i.toNatClampNeg none) := XP_J (by rw [h]; unfold pAast; dsimp only; rw [if_pos (by rw [hi, decide_eq_true ht, decide_eq_true hb]; rfl)])
theorem x_alen {a : Nat} (h : P.2.1 y pc = pAlen n) (h1 : 100 ≤ gT G a) (h2 : gT G a < 200) : XP P d y pc ls (.ref a :: st) G = XP P d y n ls (.int (nI (gN G a)) :: st) G := XP_J (by rw [h]; unfold pAlen; dsimp only; rw [if_pos (by rw [decide_eq_true h1, decide_eq_true h2]; rfl)])
theorem x_new {t k : Nat} (h : P.2.1 y pc = pNew t k n) : XP P d y pc ls st G = XP P d y n ls (.ref (gX G) :: st) (nw G t k) := XP_J (by rw [h]; rfl)
theorem x_newa {t : Nat} {c : Int32} (h : P.2.1 y pc = pNewa t n) (hc : ¬ c < 0) (hk : c.toNatClampNeg ≤ 100000) : XP P d y pc ls (.int c :: st) G = XP P d y n ls (.ref (gX G) :: st) (nw G t c.toNatClampNeg) := XP_J (by rw [h]; exact if_pos (by rw [decide_eq_true hc, decide_eq_true hk]; rfl))
theorem x_cast {ts : List Nat} {a : Nat} (h : P.2.1 y pc = pCast ts n) (ht : ts.contains (gT G a) = true) : XP P d y pc ls (.ref a :: st) G = XP P d y n ls (.ref a :: st) G := XP_J (by rw [h]; exact if_pos ht)
theorem x_castN {ts : List Nat} (h : P.2.1 y pc = pCast ts n) : XP P d y pc ls (.null :: st) G = XP P d y n ls (.null :: st) G := XP_J (by rw [h]; rfl)
theorem x_instY {ys ns : List Nat} {a : Nat} (h : P.2.1 y pc = pInst ys ns n) (ht : ys.contains (gT G a) = true) : XP P d y pc ls (.ref a :: st) G = XP P d y n ls (.int 1 :: st) G := XP_J (by rw [h]; exact if_pos ht)
theorem ent_le {n : Nat} {as l : List Value} (he : ent n as = l) (hz : l.length = n) : (as.foldr en1 []).length ≤ n := by
  rw [← he] at hz
  unfold ent entp at hz
  rw [List.length_append, List.length_replicate] at hz
  omega
theorem x_callV {tk : List (Nat × Nat)} {k t b y' : Nat} {rest l : List Value} (h : P.2.1 y pc = pCallV tk k n) (hs : st.drop k = .ref b :: rest) (hr : rest.length ≤ 4) (hk : fk tk t = some y') (ht : gT G b = t) (he : ent (P.1 y') (.ref b :: (st.take k).reverse) = l) (hz : l.length = P.1 y') : XP P (d + 1) y pc ls st G = RP P (d + 1) y pc n ls rest (XP P d y' 0 l [] G) := by
  have hle := ent_le he hz
  rw [← he]
  exact XP_C (by rw [h]; unfold pCallV; rw [hs]; dsimp only; rw [if_pos hr, ht, hk]) hle
theorem x_callI {k b y' : Nat} {rest l : List Value} (h : P.2.1 y pc = pCallI y' k n) (hs : st.drop k = .ref b :: rest) (hr : rest.length ≤ 4) (he : ent (P.1 y') (.ref b :: (st.take k).reverse) = l) (hz : l.length = P.1 y') : XP P (d + 1) y pc ls st G = RP P (d + 1) y pc n ls rest (XP P d y' 0 l [] G) := by
  have hle := ent_le he hz
  rw [← he]
  exact XP_C (by rw [h]; unfold pCallI; rw [hs]; dsimp only; rw [if_pos hr]) hle
theorem x_callS {k y' : Nat} {rest l : List Value} (h : P.2.1 y pc = pCallS y' k n) (hs : st.drop k = rest) (hk : k ≤ st.length) (hr : rest.length ≤ 4) (he : ent (P.1 y') (st.take k).reverse = l) (hz : l.length = P.1 y') : XP P (d + 1) y pc ls st G = RP P (d + 1) y pc n ls rest (XP P d y' 0 l [] G) := by
  have hle := ent_le he hz
  rw [← he]
  subst hs
  exact XP_C (by rw [h]; unfold pCallS; rw [if_pos (by rw [decide_eq_true hk, decide_eq_true hr]; rfl)]) hle
theorem x_copyI {ok : Nat → Nat → Bool} {k dp sp : Int32} {a b : Nat} (h : P.2.1 y pc = pCopy ok n) (hr : st.length ≤ 4) (hc : cpOK G a b sp dp k = true) (ht : gT G a = 100) : XP P d y pc ls (.int k :: .int dp :: .ref a :: .int sp :: .ref b :: st) G = XP P d y n ls st (sIr G a (va_cpy (gI G b) (gI G a) sp.toNatClampNeg dp.toNatClampNeg k.toNatClampNeg)) := XP_J (by rw [h]; unfold pCopy; dsimp only; rw [if_pos (by rw [hc, decide_eq_true hr]; rfl), if_pos (by rw [ht]; rfl)])
theorem x_copyB {ok : Nat → Nat → Bool} {k dp sp : Int32} {a b : Nat} (h : P.2.1 y pc = pCopy ok n) (hr : st.length ≤ 4) (hc : cpOK G a b sp dp k = true) (ht : gT G a = 102) (hb : bAll G b sp.toNatClampNeg k.toNatClampNeg = true) : XP P d y pc ls (.int k :: .int dp :: .ref a :: .int sp :: .ref b :: st) G = XP P d y n ls st (sIr G a (va_cpy (gI G b) (gI G a) sp.toNatClampNeg dp.toNatClampNeg k.toNatClampNeg)) := XP_J (by rw [h]; unfold pCopy; dsimp only; rw [if_pos (by rw [hc, decide_eq_true hr]; rfl), if_pos (by rw [ht, hb]; rfl)])
theorem x_copyR {ok : Nat → Nat → Bool} {k dp sp : Int32} {a b : Nat} (h : P.2.1 y pc = pCopy ok n) (hr : st.length ≤ 4) (hc : cpOK G a b sp dp k = true) (ht : 110 ≤ gT G a) (hb : rAll ok G a b sp.toNatClampNeg k.toNatClampNeg = true) : XP P d y pc ls (.int k :: .int dp :: .ref a :: .int sp :: .ref b :: st) G = XP P d y n ls st (sRr G a (va_cpy (gR G b) (gR G a) sp.toNatClampNeg dp.toNatClampNeg k.toNatClampNeg)) := XP_J (by
  rw [h]; unfold pCopy; dsimp only
  rw [if_pos (by rw [hc, decide_eq_true hr]; rfl), if_neg (by intro z; simp only [Bool.or_eq_true, Bool.and_eq_true, decide_eq_true_eq] at z; omega), if_pos (by rw [hb, decide_eq_true ht]; rfl)])
theorem x_cloneR {t a : Nat} (h : P.2.1 y pc = pClone t n) (hr : st.length ≤ 4) (ht : gT G a = t) (hk : gN G a ≤ 100000) (h1 : 110 ≤ t) : XP P d y pc ls (.ref a :: st) G = XP P d y n ls (.ref (gX G) :: st) (sRr (nw G t (gN G a)) (gX G) (gR G a)) := XP_J (by rw [h]; unfold pClone; dsimp only; rw [if_pos (by rw [decide_eq_true ht, decide_eq_true hr, decide_eq_true hk]; rfl), if_pos h1])
theorem x_cloneB {a : Nat} (h : P.2.1 y pc = pClone 102 n) (hr : st.length ≤ 4) (ht : gT G a = 102) (hk : gN G a ≤ 100000) (hb : bAll G a 0 (gN G a) = true) : XP P d y pc ls (.ref a :: st) G = XP P d y n ls (.ref (gX G) :: st) (sIr (nw G 102 (gN G a)) (gX G) (gI G a)) := XP_J (by rw [h]; unfold pClone; dsimp only; rw [if_pos (by rw [decide_eq_true ht, decide_eq_true hr, decide_eq_true hk]; rfl), if_neg (by decide), if_pos (by rw [hb]; rfl)])
theorem x_lamC {i : Nat} (h : P.2.1 y pc = pLamC i n) (hr : st.length ≤ 4) : XP P d y pc ls st G = XP P d y n ls (.ref (gA G i) :: st) G := XP_J (by rw [h]; unfold pLamC; rw [if_pos (decide_eq_true hr)])
theorem x_lamM {t b : Nat} (h : P.2.1 y pc = pLamM t n) (hr : st.length ≤ 4) : XP P d y pc ls (.ref b :: st) G = XP P d y n ls (.ref (gX G) :: st) (sR (nw G t 1) (gX G) 0 (some b)) := XP_J (by rw [h]; unfold pLamM; dsimp only; rw [if_pos (decide_eq_true hr)])
theorem x_lamN {t b : Nat} {x : Int32} (h : P.2.1 y pc = pLamN t n) (hr : st.length ≤ 4) : XP P d y pc ls (.int x :: .ref b :: st) G = XP P d y n ls (.ref (gX G) :: st) (sI (sR (nw G t 2) (gX G) 0 (some b)) (gX G) 1 x) := XP_J (by rw [h]; unfold pLamN; dsimp only; rw [if_pos (decide_eq_true hr)])
theorem x_callL {tk : List (Nat × Nat)} {b t y' : Nat} {v : Value} {as l : List Value} (h : P.2.1 y pc = pCallL tk n) (hr : st.length ≤ 4) (hx : rf v = true) (ht : gT G b = t) (hk : fk tk t = some y') (hc : capOK G b t = true) (ha : capV G b t ++ [v] = as) (he : ent (P.1 y') as = l) (hz : l.length = P.1 y') : XP P (d + 1) y pc ls (v :: .ref b :: st) G = RP P (d + 1) y pc n ls st (XP P d y' 0 l [] G) := by
  have hle := ent_le he hz
  rw [← he]
  exact XP_C (by rw [h]; unfold pCallL; dsimp only; rw [if_pos (by rw [decide_eq_true hr, hx, ht, hc]; rfl), ht, hk]; dsimp only; rw [ha]) hle
theorem cap0 {b t : Nat} {v : Value} (h : t ≤ 28) : capOK G b t = true ∧ capV G b t ++ [v] = [v] := ⟨if_pos h, by unfold capV; rw [if_pos h]; rfl⟩
theorem cap1 {b t z u : Nat} {v : Value} (h : ¬ t ≤ 28) (h2 : t ≤ 31) (hz : gR G b 0 = some z) (hu : gT G z = u) (h3 : u = if t ≤ 30 then 6 else 1) : capOK G b t = true ∧ capV G b t ++ [v] = [.ref z, v] := ⟨by unfold capOK; rw [if_neg h, hz]; dsimp only; rw [hu, h3]; exact beq_self_eq_true _, by unfold capV; rw [if_neg h, if_pos h2, hz]; rfl⟩
theorem cap2 {b z : Nat} {v : Value} (hz : gR G b 0 = some z) (hu : gT G z = 1) : capOK G b 32 = true ∧ capV G b 32 ++ [v] = [.ref z, .int (gI G b 1), v] := ⟨by unfold capOK; rw [if_neg (by decide), hz]; dsimp only; rw [hu]; rfl, by unfold capV; rw [if_neg (by decide), if_neg (by decide), hz]; rfl⟩
theorem x_getC {t i a : Nat} (h : P.2.1 y pc = pGetC t i n) (hr : st.length ≤ 4) (ht : gT G a = t) : XP P d y pc ls (.ref a :: st) G = XP P d y n ls (.ref (gA G i) :: st) G := XP_J (by rw [h]; unfold pGetC; dsimp only; rw [if_pos (by rw [ht, decide_eq_true hr, beq_self_eq_true]; rfl)])
theorem x_cacheLd {j a : Nat} {x : Int32} (h : P.2.1 y pc = pCacheLd j n) (ha : a = gA G j) (hi : inb x 256 = true) : XP P d y pc ls (.int x :: .ref a :: st) G = XP P d y n ls (.ref (gA G (1000 + x.toNatClampNeg)) :: st) G := XP_J (by rw [h]; unfold pCacheLd; dsimp only; rw [if_pos (by rw [ha, hi, beq_self_eq_true]; rfl)])
theorem x_objInit {a : Nat} (h : P.2.1 y pc = pObjInit n) (hr : st.length ≤ 4) : XP P d y pc ls (.ref a :: st) G = XP P d y n ls st G := XP_J (by rw [h]; exact if_pos hr)
theorem x_min {a b : Int32} (h : P.2.1 y pc = pMin n) (hr : st.length ≤ 4) : XP P d y pc ls (.int b :: .int a :: st) G = XP P d y n ls (.int (if b < a then b else a) :: st) G := XP_J (by rw [h]; exact if_pos hr)
theorem x_max {a b : Int32} (h : P.2.1 y pc = pMax n) (hr : st.length ≤ 4) : XP P d y pc ls (.int b :: .int a :: st) G = XP P d y n ls (.int (if a < b then b else a) :: st) G := XP_J (by rw [h]; exact if_pos hr)
theorem x_st {i : Nat} (h : P.2.1 y pc = pSt i n) : XP P d y pc ls st G = XP P d y n ls (.ref (gA G i) :: st) G := XP_J (by rw [h]; rfl)
theorem x_stQ {i n : Nat} (h : P.2.1 y pc = pStQ i n) : XP P d y pc ls st G = XP P d y n ls (oQ (gA G i) :: st) G := XP_J (by rw [h]; rfl)
theorem x_throw0 {t : Nat} (h : P.2.1 y pc = pThrow0 t) (hs : st.length ≤ 40) : XP P d y pc ls st G = RP P d y pc 0 ls [] (some (.inr (gX G), nw G t 6)) := XP_T (by rw [h]; exact if_pos hs)
theorem x_throw {a : Nat} (h : P.2.1 y pc = pThrow) (ht : tex (gT G a) = true) (hb : gB G ≤ a) : XP P d y pc ls (.ref a :: st) G = RP P d y pc 0 ls [] (some (.inr a, G)) := XP_T (by rw [h]; unfold pThrow; dsimp only; rw [if_pos (by rw [ht, Bool.true_and]; exact decide_eq_true hb)])
theorem RP_v {pc' : Nat} {v : Value} : RP P d y pc pc' ls st (some (.inl (some v), G)) = XP P d y pc' ls (v :: st) G := id rfl
theorem RP_n {pc' : Nat} : RP P d y pc pc' ls st (some (.inl none, G)) = XP P d y pc' ls st G := id rfl
theorem RP_x {pc' a t : Nat} (ht : gT G a = t) (hh : P.2.2 y pc t = none) : RP P d y pc pc' ls st (some (.inr a, G)) = some (.inr a, G) := by
  unfold RP
  dsimp only
  rw [ht, hh]
theorem RP_h {pc' a t h : Nat} (ht : gT G a = t) (hh : P.2.2 y pc t = some h) : RP P d y pc pc' ls st (some (.inr a, G)) = XP P d y h ls [.ref a] G := by
  unfold RP
  dsimp only
  rw [ht, hh]
theorem en1_ref {a : Nat} {r : List Value} : en1 (.ref a) r = .ref a :: r := id rfl
theorem en1_int {a : Int32} {r : List Value} : en1 (.int a) r = .int a :: r := id rfl
theorem en1_long {a : Int64} {r : List Value} : en1 (.long a) r = .long a :: UV :: r := id rfl
theorem en1_rf {v : Value} {r : List Value} (h : rf v = true) : en1 v r = v :: r := by cases v <;> first | rfl | cases h
end XR

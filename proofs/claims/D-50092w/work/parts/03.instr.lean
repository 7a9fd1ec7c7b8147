/-! THE PURE MACHINE's INSTRUCTIONS: each a function of locals, stack and heap (n: the next pc) -/
def rf (v : Value) : Bool := match v with
  | .null => true
  | .ref _ => true
  | _ => false
def c1 (v : Value) : Bool := match v with
  | .long _ => false
  | .double _ => false
  | _ => true
theorem rf_ref (a : Nat) : rf (.ref a) = true := id rfl
theorem rf_null : rf .null = true := id rfl
theorem rf_va (r : Option Nat) : rf (va_rf r) = true := by cases r <;> rfl
theorem c1_of_rf {v : Value} (h : rf v = true) : c1 v = true := by cases v <;> first | rfl | cases h
theorem c1_cat {v : Value} (h : c1 v = true) : v.category = 1 := by cases v <;> first | rfl | cases h
theorem rf_elim {v : Value} (h : rf v = true) : ∃ r, v = va_rf r := by
  cases v with
  | null => exact ⟨none, rfl⟩
  | ref a => exact ⟨some a, rfl⟩
  | _ => cases h
def rvo (v : Value) : Option Nat := match v with
  | .ref a => some a
  | _ => none
theorem rvo_rf (r : Option Nat) : rvo (va_rf r) = r := by cases r <;> rfl
theorem va_rf_rvo {v : Value} (h : rf v = true) : va_rf (rvo v) = v := by cases v <;> first | rfl | cases h
theorem va_rf_some (a : Nat) : va_rf (some a) = .ref a := id rfl
theorem va_rf_none : va_rf none = .null := id rfl
/-- an index in range -/
def inb (i : Int32) (n : Nat) : Bool := decide (¬ (i < 0 ∨ n ≤ i.toNatClampNeg))
theorem inb_iff {i : Int32} {n : Nat} : inb i n = true ↔ vp_in i n := by unfold inb vp_in; rw [decide_eq_true_iff]
theorem inb_nI {k n : Nat} (h : k < n) (hn : n < 2 ^ 31) : inb (nI k) n = true := inb_iff.mpr (vp_in_nI h hn)
/-- a local is set: the one ahead of it mustn't be a long's first half -/
def lset1 (ls : List Value) (i : Nat) (v : Value) : Option (List Value) := if (decide (i < ls.length) && c1 (ls.getD (i - 1) UV)) = true then some (ls.set i v) else none
def lset2 (ls : List Value) (i : Nat) (v : Value) : Option (List Value) := if (decide (i + 1 < ls.length) && c1 (ls.getD (i - 1) UV)) = true then some ((ls.set i v).set (i + 1) UV) else none
def oJ (o : Option (List Value)) (n : Nat) (st : List Value) (G : Hp) : Cmd := match o with
  | some ls => cJ n ls st G
  | none => none
def pK (v : Value) (n : Nat) : PI := fun ls st G => cJ n ls (v :: st) G
def pIload (i n : Nat) : PI := fun ls st G => match ls.getD i UV with
  | .int x => cJ n ls (.int x :: st) G
  | _ => none
def pLload (i n : Nat) : PI := fun ls st G => match ls.getD i UV with
  | .long x => cJ n ls (.long x :: st) G
  | _ => none
def pFload (i n : Nat) : PI := fun ls st G => match ls.getD i UV with
  | .float x => cJ n ls (.float x :: st) G
  | _ => none
def pDload (i n : Nat) : PI := fun ls st G => match ls.getD i UV with
  | .double x => cJ n ls (.double x :: st) G
  | _ => none
def pAload (i n : Nat) : PI := fun ls st G => if rf (ls.getD i UV) = true then cJ n ls (ls.getD i UV :: st) G else none
def pIstore (i n : Nat) : PI := fun ls st G => match st with
  | .int x :: st => oJ (lset1 ls i (.int x)) n st G
  | _ => none
def pFstore (i n : Nat) : PI := fun ls st G => match st with
  | .float x :: st => oJ (lset1 ls i (.float x)) n st G
  | _ => none
def pLstore (i n : Nat) : PI := fun ls st G => match st with
  | .long x :: st => oJ (lset2 ls i (.long x)) n st G
  | _ => none
def pDstore (i n : Nat) : PI := fun ls st G => match st with
  | .double x :: st => oJ (lset2 ls i (.double x)) n st G
  | _ => none
def pAstore (i n : Nat) : PI := fun ls st G => match st with
  | v :: st => if rf v = true then oJ (lset1 ls i v) n st G else none
  | _ => none
def pIinc (i : Nat) (c : Int32) (n : Nat) : PI := fun ls st G => match ls.getD i UV with
  | .int x => oJ (lset1 ls i (.int (x + c))) n st G
  | _ => none
def pI2 (f : Int32 → Int32 → Int32) (n : Nat) : PI := fun ls st G => match st with
  | .int y :: .int x :: st => cJ n ls (.int (f x y) :: st) G
  | _ => none
def pIadd (n : Nat) : PI := pI2 (fun x y => x + y) n
def pIsub (n : Nat) : PI := pI2 (fun x y => x - y) n
def pImul (n : Nat) : PI := pI2 (fun x y => x * y) n
def pIand (n : Nat) : PI := pI2 (fun x y => x &&& y) n
def pIor (n : Nat) : PI := pI2 (fun x y => x ||| y) n
def pIxor (n : Nat) : PI := pI2 (fun x y => x ^^^ y) n
def pIshl (n : Nat) : PI := pI2 (fun x y => x <<< (y &&& 31)) n
def pIshr (n : Nat) : PI := pI2 (fun x y => x >>> (y &&& 31)) n
def pIushr (n : Nat) : PI := pI2 (fun x y => (x.toUInt32 >>> (y.toUInt32 &&& Int32.toUInt32 31)).toInt32) n
def pIdiv (n : Nat) : PI := fun ls st G => match st with
  | .int y :: .int x :: st => if y = 0 then none else cJ n ls (.int (x / y) :: st) G
  | _ => none
def pIrem (n : Nat) : PI := fun ls st G => match st with
  | .int y :: .int x :: st => if y = 0 then none else cJ n ls (.int (x - x / y * y) :: st) G
  | _ => none
def pI1 (f : Int32 → Value) (n : Nat) : PI := fun ls st G => match st with
  | .int x :: st => cJ n ls (f x :: st) G
  | _ => none
def pIneg (n : Nat) : PI := pI1 (fun x => .int (-x)) n
def pI2l (n : Nat) : PI := pI1 (fun x => .long x.toInt64) n
def pI2b (n : Nat) : PI := pI1 (fun x => .int x.toInt8.toInt32) n
def pI2c (n : Nat) : PI := pI1 (fun x => .int (x.toUInt32 % 65536).toInt32) n
def pI2f (n : Nat) : PI := pI1 (fun x => .float (FP.i2f x)) n
def pI2d (n : Nat) : PI := pI1 (fun x => .double (FP.i2d x)) n
def pL2 (f : Int64 → Int64 → Int64) (n : Nat) : PI := fun ls st G => match st with
  | .long y :: .long x :: st => cJ n ls (.long (f x y) :: st) G
  | _ => none
def pLadd (n : Nat) : PI := pL2 (fun x y => x + y) n
def pLsub (n : Nat) : PI := pL2 (fun x y => x - y) n
def pLmul (n : Nat) : PI := pL2 (fun x y => x * y) n
def pLand (n : Nat) : PI := pL2 (fun x y => x &&& y) n
def pLor (n : Nat) : PI := pL2 (fun x y => x ||| y) n
def pLI (f : Int64 → Int32 → Int64) (n : Nat) : PI := fun ls st G => match st with
  | .int y :: .long x :: st => cJ n ls (.long (f x y) :: st) G
  | _ => none
def pLshl (n : Nat) : PI := pLI (fun x y => x <<< (y.toInt64 &&& 63)) n
def pLshr (n : Nat) : PI := pLI (fun x y => x >>> (y.toInt64 &&& 63)) n
def pLcmp (n : Nat) : PI := fun ls st G => match st with
  | .long y :: .long x :: st => cJ n ls (.int (lg_cmp x y) :: st) G
  | _ => none
def pL2i (n : Nat) : PI := fun ls st G => match st with
  | .long x :: st => cJ n ls (.int x.toInt32 :: st) G
  | _ => none
def pFdiv (n : Nat) : PI := fun ls st G => match st with
  | .float y :: .float x :: st => if (FP.fdiv x y) &&& 0x7fffffff ≤ 0x7f800000 then cJ n ls (.float (FP.fdiv x y) :: st) G else none
  | _ => none
def pDdiv (n : Nat) : PI := fun ls st G => match st with
  | .double y :: .double x :: st => if (FP.ddiv x y) &&& 0x7fffffffffffffff ≤ 0x7ff0000000000000 then cJ n ls (.double (FP.ddiv x y) :: st) G else none
  | _ => none
def pF2d (n : Nat) : PI := fun ls st G => match st with
  | .float x :: st => if (FP.f2d x) &&& 0x7fffffffffffffff ≤ 0x7ff0000000000000 then cJ n ls (.double (FP.f2d x) :: st) G else none
  | _ => none
def pFcmp (op : CmpOp) (n : Nat) : PI := fun ls st G => match st with
  | .float y :: .float x :: st => cJ n ls (.int (Op.cmpValue (FP.fcmp x y) op) :: st) G
  | _ => none
def pDcmp (op : CmpOp) (n : Nat) : PI := fun ls st G => match st with
  | .double y :: .double x :: st => cJ n ls (.int (Op.cmpValue (FP.dcmp x y) op) :: st) G
  | _ => none
def pDup (n : Nat) : PI := fun ls st G => match st with
  | v :: st => if c1 v = true then cJ n ls (v :: v :: st) G else none
  | _ => none
def pPop (n : Nat) : PI := fun ls st G => match st with
  | v :: st => if c1 v = true then cJ n ls st G else none
  | _ => none
def pDupX1 (n : Nat) : PI := fun ls st G => match st with
  | v :: w :: st => if (c1 v && c1 w) = true then cJ n ls (v :: w :: v :: st) G else none
  | _ => none
def pDup2 (n : Nat) : PI := fun ls st G => match st with
  | v :: w :: st => if (c1 v && c1 w) = true then cJ n ls (v :: w :: v :: w :: st) G else none
  | _ => none
def pGoto (t : Nat) : PI := fun ls st G => cJ t ls st G
def pIf0 (c : Int32 → Bool) (t n : Nat) : PI := fun ls st G => match st with
  | .int x :: st => if c x = true then cJ t ls st G else cJ n ls st G
  | _ => none
def pIf2 (c : Int32 → Int32 → Bool) (t n : Nat) : PI := fun ls st G => match st with
  | .int y :: .int x :: st => if c x y = true then cJ t ls st G else cJ n ls st G
  | _ => none
def pIfN (t n : Nat) : PI := fun ls st G => match st with
  | .null :: st => cJ t ls st G
  | .ref _ :: st => cJ n ls st G
  | _ => none
def pIfA (eq : Bool) (t n : Nat) : PI := fun ls st G => match st with
  | w :: v :: st => if (rf v && rf w) = true then (if (decide (v = w) == eq) = true then cJ t ls st G else cJ n ls st G) else none
  | _ => none
def swi (cs : List (Int32 × Nat)) (dflt : Nat) (x : Int32) : Nat := match cs with
  | [] => dflt
  | (c, t) :: r => if x = c then t else swi r dflt x
def pSw (cs : List (Int32 × Nat)) (dflt : Nat) : PI := fun ls st G => match st with
  | .int x :: st => cJ (swi cs dflt x) ls st G
  | _ => none
def pRetI : PI := fun _ st _ => match st with
  | [.int x] => cR (some (.int x))
  | _ => none
def pRetZ : PI := fun _ st _ => match st with
  | [.int x] => if x &&& 1 = x then cR (some (.int x)) else none
  | _ => none
def pRetC : PI := fun _ st _ => match st with
  | [.int x] => if x.toUInt32.toUInt16.toUInt32.toInt32 = x then cR (some (.int x)) else none
  | _ => none
def pRetB : PI := fun _ st _ => match st with
  | [.int x] => if x.toInt8.toInt32 = x then cR (some (.int x)) else none
  | _ => none
def pRetL : PI := fun _ st _ => match st with
  | [.long x] => cR (some (.long x))
  | _ => none
def pRetF : PI := fun _ st _ => match st with
  | [.float x] => cR (some (.float x))
  | _ => none
def pRetD : PI := fun _ st _ => match st with
  | [.double x] => cR (some (.double x))
  | _ => none
def pRetA : PI := fun _ st _ => match st with
  | [v] => if rf v = true then cR (some v) else none
  | _ => none
def pRet : PI := fun _ st _ => match st with
  | [] => cR none
  | _ => none
/-- a field's place by the object's tag -/
def fk (tk : List (Nat × Nat)) (t : Nat) : Option Nat := match tk with
  | [] => none
  | (u, k) :: r => if t = u then some k else fk r t
def pGet (rd : Hp → Nat → Nat → Value) (tk : List (Nat × Nat)) (n : Nat) : PI := fun ls st G => match st with
  | .ref a :: st => (match fk tk (gT G a) with
    | some k => cJ n ls (rd G a k :: st) G
    | none => none)
  | _ => none
def rdI (G : Hp) (a k : Nat) : Value := .int (gI G a k)
def rdJ (G : Hp) (a k : Nat) : Value := .long (gJ G a k)
def rdR (G : Hp) (a k : Nat) : Value := va_rf (gR G a k)
def pGetI (tk : List (Nat × Nat)) (n : Nat) : PI := pGet rdI tk n
def pGetJ (tk : List (Nat × Nat)) (n : Nat) : PI := pGet rdJ tk n
def pGetR (tk : List (Nat × Nat)) (n : Nat) : PI := pGet rdR tk n
def pPutI (ok : Int32 → Bool) (tk : List (Nat × Nat)) (n : Nat) : PI := fun ls st G => match st with
  | .int x :: .ref a :: st => if (ok x && decide (gB G ≤ a)) = true then (match fk tk (gT G a) with
    | some k => cJ n ls st (sI G a k x)
    | none => none) else none
  | _ => none
def okI (_ : Int32) : Bool := true
def okZ (x : Int32) : Bool := decide (x &&& 1 = x)
def okC (x : Int32) : Bool := decide (x.toUInt32.toUInt16.toUInt32.toInt32 = x)
def okB (x : Int32) : Bool := decide (x.toInt8.toInt32 = x)
def pPutJ (tk : List (Nat × Nat)) (n : Nat) : PI := fun ls st G => match st with
  | .long x :: .ref a :: st => if gB G ≤ a then (match fk tk (gT G a) with
    | some k => cJ n ls st (sJ G a k x)
    | none => none) else none
  | _ => none
def pPutR (tk : List (Nat × Nat)) (n : Nat) : PI := fun ls st G => match st with
  | v :: .ref a :: st => if (rf v && decide (gB G ≤ a)) = true then (match fk tk (gT G a) with
    | some k => cJ n ls st (sR G a k (rvo v))
    | none => none) else none
  | _ => none
/-- arrays' tags: 100 int, 101 long, 102 byte, 103 double (its bits), 104 boolean, 105 char; from 110 on of references -/
def pIald (t n : Nat) : PI := fun ls st G => match st with
  | .int i :: .ref a :: st => if (decide (gT G a = t) && inb i (gN G a)) = true then cJ n ls (.int (gI G a i.toNatClampNeg) :: st) G else none
  | _ => none
def pLald (n : Nat) : PI := fun ls st G => match st with
  | .int i :: .ref a :: st => if (decide (gT G a = 101) && inb i (gN G a)) = true then cJ n ls (.long (gJ G a i.toNatClampNeg) :: st) G else none
  | _ => none
def pDald (n : Nat) : PI := fun ls st G => match st with
  | .int i :: .ref a :: st => if (decide (gT G a = 103) && inb i (gN G a)) = true then cJ n ls (.double (gJ G a i.toNatClampNeg).toUInt64 :: st) G else none
  | _ => none
def pAald (n : Nat) : PI := fun ls st G => match st with
  | .int i :: .ref a :: st => if (decide (110 ≤ gT G a) && inb i (gN G a)) = true then cJ n ls (va_rf (gR G a i.toNatClampNeg) :: st) G else none
  | _ => none
def pIast (n : Nat) : PI := fun ls st G => match st with
  | .int x :: .int i :: .ref a :: st => if (decide (gT G a = 100) && inb i (gN G a) && decide (gB G ≤ a)) = true then cJ n ls st (sI G a i.toNatClampNeg x) else none
  | _ => none
def pBast (n : Nat) : PI := fun ls st G => match st with
  | .int x :: .int i :: .ref a :: st => if (decide (gT G a = 102) && inb i (gN G a) && decide (gB G ≤ a)) = true then cJ n ls st (sI G a i.toNatClampNeg x.toInt8.toInt32) else none
  | _ => none
def pLast (n : Nat) : PI := fun ls st G => match st with
  | .long x :: .int i :: .ref a :: st => if (decide (gT G a = 101) && inb i (gN G a) && decide (gB G ≤ a)) = true then cJ n ls st (sJ G a i.toNatClampNeg x) else none
  | _ => none
def pDast (n : Nat) : PI := fun ls st G => match st with
  | .double x :: .int i :: .ref a :: st => if (decide (gT G a = 103) && inb i (gN G a) && decide (gB G ≤ a)) = true then cJ n ls st (sJ G a i.toNatClampNeg x.toInt64) else none
  | _ => none
/-- ok t u: an object of tag u may lie in an array of tag t -/
def pAast (ok : Nat → Nat → Bool) (n : Nat) : PI := fun ls st G => match st with
  | .ref b :: .int i :: .ref a :: st => if (decide (110 ≤ gT G a) && inb i (gN G a) && decide (gB G ≤ a) && ok (gT G a) (gT G b)) = true then cJ n ls st (sR G a i.toNatClampNeg (some b)) else none
  | .null :: .int i :: .ref a :: st => if (decide (110 ≤ gT G a) && inb i (gN G a) && decide (gB G ≤ a)) = true then cJ n ls st (sR G a i.toNatClampNeg none) else none
  | _ => none
def pAlen (n : Nat) : PI := fun ls st G => match st with
  | .ref a :: st => if (decide (100 ≤ gT G a) && decide (gT G a < 200)) = true then cJ n ls (.int (nI (gN G a)) :: st) G else none
  | _ => none
def pNew (t k n : Nat) : PI := fun ls st G => cJ n ls (.ref (gX G) :: st) (nw G t k)
def pNewa (t n : Nat) : PI := fun ls st G => match st with
  | .int c :: st => if (decide (¬ c < 0) && decide (c.toNatClampNeg ≤ 100000)) = true then cJ n ls (.ref (gX G) :: st) (nw G t c.toNatClampNeg) else none
  | _ => none
def pCast (ts : List Nat) (n : Nat) : PI := fun ls st G => match st with
  | .null :: st => cJ n ls (.null :: st) G
  | .ref a :: st => if ts.contains (gT G a) = true then cJ n ls (.ref a :: st) G else none
  | _ => none
def pInst (ys ns : List Nat) (n : Nat) : PI := fun ls st G => match st with
  | .null :: st => cJ n ls (.int 0 :: st) G
  | .ref a :: st => if ys.contains (gT G a) = true then cJ n ls (.int 1 :: st) G else if ns.contains (gT G a) = true then cJ n ls (.int 0 :: st) G else none
  | _ => none
/-- calls: k arguments behind the receiver -/
def pCallV (tk : List (Nat × Nat)) (k n : Nat) : PI := fun _ st G => match st.drop k with
  | .ref b :: rest => if rest.length ≤ 4 then (match fk tk (gT G b) with
    | some y => cC y (.ref b :: (st.take k).reverse) n rest
    | none => none) else none
  | _ => none
def pCallI (y k n : Nat) : PI := fun _ st _ => match st.drop k with
  | .ref b :: rest => if rest.length ≤ 4 then cC y (.ref b :: (st.take k).reverse) n rest else none
  | _ => none
def pCallS (y k n : Nat) : PI := fun _ st _ => if (decide (k ≤ st.length) && decide ((st.drop k).length ≤ 4)) = true then cC y (st.take k).reverse n (st.drop k) else none
def pObjInit (n : Nat) : PI := fun ls st G => match st with
  | .ref _ :: st => if st.length ≤ 4 then cJ n ls st G else none
  | _ => none
def pMin (n : Nat) : PI := fun ls st G => match st with
  | .int y :: .int x :: st => if st.length ≤ 4 then cJ n ls (.int (if y < x then y else x) :: st) G else none
  | _ => none
def pMax (n : Nat) : PI := fun ls st G => match st with
  | .int y :: .int x :: st => if st.length ≤ 4 then cJ n ls (.int (if x < y then y else x) :: st) G else none
  | _ => none
/-- a constant object: a static field that nobody writes, a String constant -/
def pSt (i n : Nat) : PI := fun ls st G => cJ n ls (.ref (gA G i) :: st) G
/-- a static field that may hold null: one more than its address -/
def oQ (x : Nat) : Value := match x with
  | 0 => .null
  | a + 1 => .ref a
theorem rf_oQ (x : Nat) : rf (oQ x) = true := by cases x <;> rfl
def pStQ (i n : Nat) : PI := fun ls st G => cJ n ls (oQ (gA G i) :: st) G
/-- throw new E(), of 6 slots, nothing of it is read -/
def pThrow0 (t : Nat) : PI := fun _ st G => if st.length ≤ 40 then cX (gX G) (nw G t 6) else none
/-- what may be thrown: the parse error, four of the library's -/
def tex (t : Nat) : Bool := Nat.beq t 10 || (Nat.ble 23 t && Nat.ble t 26)
def pThrow : PI := fun _ st G => match st with
  | .ref a :: _ => if (tex (gT G a) && decide (gB G ≤ a)) = true then cX a G else none
  | _ => none
/-- System.arraycopy between arrays of one type: ints, bytes (that are bytes), references that may lie there -/
def cpOK (G : Hp) (a b : Nat) (sp dp k : Int32) : Bool := decide (¬ k < 0) && decide (¬ dp < 0) && decide (¬ sp < 0) && decide (sp.toNatClampNeg + k.toNatClampNeg ≤ gN G b) && decide (dp.toNatClampNeg + k.toNatClampNeg ≤ gN G a) && decide (gT G a = gT G b) && decide (gB G ≤ a)
def rAll (ok : Nat → Nat → Bool) (G : Hp) (a b sp k : Nat) : Bool := (List.range k).all fun i => match gR G b (sp + i) with
  | none => true
  | some q => ok (gT G a) (gT G q)
def bAll (G : Hp) (b sp k : Nat) : Bool := (List.range k).all fun i => okB (gI G b (sp + i))
def pCopy (ok : Nat → Nat → Bool) (n : Nat) : PI := fun ls st G => match st with
  | .int k :: .int dp :: .ref a :: .int sp :: .ref b :: st =>
    if (cpOK G a b sp dp k && decide (st.length ≤ 4)) = true then
      (if (decide (gT G a = 100) || (decide (gT G a = 102) && bAll G b sp.toNatClampNeg k.toNatClampNeg)) = true then cJ n ls st (sIr G a (va_cpy (gI G b) (gI G a) sp.toNatClampNeg dp.toNatClampNeg k.toNatClampNeg))
       else if (decide (110 ≤ gT G a) && rAll ok G a b sp.toNatClampNeg k.toNatClampNeg) = true then cJ n ls st (sRr G a (va_cpy (gR G b) (gR G a) sp.toNatClampNeg dp.toNatClampNeg k.toNatClampNeg))
       else none) else none
  | _ => none
/-- an array's clone -/
def pClone (t n : Nat) : PI := fun ls st G => match st with
  | .ref a :: st => if (decide (gT G a = t) && decide (gN G a ≤ 100000) && decide (st.length ≤ 4)) = true then
      (if 110 ≤ t then cJ n ls (.ref (gX G) :: st) (sRr (nw G t (gN G a)) (gX G) (gR G a))
       else if (decide (t = 102) && bAll G a 0 (gN G a)) = true then cJ n ls (.ref (gX G) :: st) (sIr (nw G t (gN G a)) (gX G) (gI G a)) else none) else none
  | _ => none
def pNo : PI := fun _ _ _ => none
/-- lambdas: what is captured; a site that captures nothing; one that captures a reference; a reference and an int; a call of the made object -/
def capV (G : Hp) (b t : Nat) : List Value := if t ≤ 28 then [] else if t ≤ 31 then [va_rf (gR G b 0)] else [va_rf (gR G b 0), .int (gI G b 1)]
def pLamC (i n : Nat) : PI := fun ls st G => if decide (st.length ≤ 4) = true then cJ n ls (.ref (gA G i) :: st) G else none
def pLamM (t n : Nat) : PI := fun ls st G => match st with
  | .ref b :: rest => if decide (rest.length ≤ 4) = true then cJ n ls (.ref (gX G) :: rest) (sR (nw G t 1) (gX G) 0 (some b)) else none
  | _ => none
def pLamN (t n : Nat) : PI := fun ls st G => match st with
  | .int x :: .ref b :: rest => if decide (rest.length ≤ 4) = true then cJ n ls (.ref (gX G) :: rest) (sI (sR (nw G t 2) (gX G) 0 (some b)) (gX G) 1 x) else none
  | _ => none
/-- the receiver that is captured is there -/
def capOK (G : Hp) (b t : Nat) : Bool := if t ≤ 28 then true else (match gR G b 0 with
  | some z => gT G z == (if t ≤ 30 then 6 else 1)
  | none => false)
def pCallL (tk : List (Nat × Nat)) (n : Nat) : PI := fun _ st G => match st with
  | x :: .ref b :: rest => if (decide (rest.length ≤ 4) && (rf x && capOK G b (gT G b))) = true then (match fk tk (gT G b) with
    | some y' => cC y' (capV G b (gT G b) ++ [x]) n rest
    | none => none) else none
  | _ => none
/-- the class of an array; an Integer out of the cache -/
def pGetC (t i n : Nat) : PI := fun ls st G => match st with
  | .ref a :: rest => if (gT G a == t && decide (rest.length ≤ 4)) = true then cJ n ls (.ref (gA G i) :: rest) G else none
  | _ => none
def pCacheLd (j n : Nat) : PI := fun ls st G => match st with
  | .int x :: .ref a :: rest => if (a == gA G j && inb x 256) = true then cJ n ls (.ref (gA G (1000 + x.toNatClampNeg)) :: rest) G else none
  | _ => none

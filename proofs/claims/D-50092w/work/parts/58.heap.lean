/-! reading a heap behind a write -/
section
variable {G : Hp} {a : Nat}
theorem sI_T {k : Nat} {x : Int32} {y : Nat} : gT (sI G a k x) y = gT G y := id rfl
theorem sI_N {k : Nat} {x : Int32} {y : Nat} : gN (sI G a k x) y = gN G y := id rfl
theorem sI_B {k : Nat} {x : Int32}  : gB (sI G a k x) = gB G := id rfl
theorem sI_A {k : Nat} {x : Int32} {i : Nat} : gA (sI G a k x) i = gA G i := id rfl
theorem sI_X {k : Nat} {x : Int32}  : gX (sI G a k x) = gX G := id rfl
theorem sI_S {k : Nat} {x : Int32}  : gS (sI G a k x) = gS G := id rfl
theorem sI_J {k : Nat} {x : Int32} {y j : Nat} : gJ (sI G a k x) y j = gJ G y j := id rfl
theorem sI_R {k : Nat} {x : Int32} {y j : Nat} : gR (sI G a k x) y j = gR G y j := id rfl
theorem sJ_T {k : Nat} {x : Int64} {y : Nat} : gT (sJ G a k x) y = gT G y := id rfl
theorem sJ_N {k : Nat} {x : Int64} {y : Nat} : gN (sJ G a k x) y = gN G y := id rfl
theorem sJ_B {k : Nat} {x : Int64}  : gB (sJ G a k x) = gB G := id rfl
theorem sJ_A {k : Nat} {x : Int64} {i : Nat} : gA (sJ G a k x) i = gA G i := id rfl
theorem sJ_X {k : Nat} {x : Int64}  : gX (sJ G a k x) = gX G := id rfl
theorem sJ_S {k : Nat} {x : Int64}  : gS (sJ G a k x) = gS G := id rfl
theorem sJ_I {k : Nat} {x : Int64} {y j : Nat} : gI (sJ G a k x) y j = gI G y j := id rfl
theorem sJ_R {k : Nat} {x : Int64} {y j : Nat} : gR (sJ G a k x) y j = gR G y j := id rfl
theorem sR_T {k : Nat} {x : Option Nat} {y : Nat} : gT (sR G a k x) y = gT G y := id rfl
theorem sR_N {k : Nat} {x : Option Nat} {y : Nat} : gN (sR G a k x) y = gN G y := id rfl
theorem sR_B {k : Nat} {x : Option Nat}  : gB (sR G a k x) = gB G := id rfl
theorem sR_A {k : Nat} {x : Option Nat} {i : Nat} : gA (sR G a k x) i = gA G i := id rfl
theorem sR_X {k : Nat} {x : Option Nat}  : gX (sR G a k x) = gX G := id rfl
theorem sR_S {k : Nat} {x : Option Nat}  : gS (sR G a k x) = gS G := id rfl
theorem sR_I {k : Nat} {x : Option Nat} {y j : Nat} : gI (sR G a k x) y j = gI G y j := id rfl
theorem sR_J {k : Nat} {x : Option Nat} {y j : Nat} : gJ (sR G a k x) y j = gJ G y j := id rfl
theorem sRr_T {f : Nat → Option Nat} {y : Nat} : gT (sRr G a f) y = gT G y := id rfl
theorem sRr_N {f : Nat → Option Nat} {y : Nat} : gN (sRr G a f) y = gN G y := id rfl
theorem sRr_B {f : Nat → Option Nat}  : gB (sRr G a f) = gB G := id rfl
theorem sRr_A {f : Nat → Option Nat} {i : Nat} : gA (sRr G a f) i = gA G i := id rfl
theorem sRr_X {f : Nat → Option Nat}  : gX (sRr G a f) = gX G := id rfl
theorem sRr_S {f : Nat → Option Nat}  : gS (sRr G a f) = gS G := id rfl
theorem sRr_I {f : Nat → Option Nat} {y j : Nat} : gI (sRr G a f) y j = gI G y j := id rfl
theorem sRr_J {f : Nat → Option Nat} {y j : Nat} : gJ (sRr G a f) y j = gJ G y j := id rfl
theorem sIr_X {f : Rw}  : gX (sIr G a f) = gX G := id rfl
theorem sIr_S {f : Rw}  : gS (sIr G a f) = gS G := id rfl
theorem sIr_J {f : Rw} {y j : Nat} : gJ (sIr G a f) y j = gJ G y j := id rfl
theorem sI_Is {k : Nat} {x : Int32} : gI (sI G a k x) a k = x := if_pos ⟨rfl, rfl⟩
theorem sI_Ik {k y j : Nat} {x : Int32} (h : ¬ j = k) : gI (sI G a k x) y j = gI G y j := if_neg (fun z => h z.2)
theorem sI_Ia {k y j : Nat} {x : Int32} (h : ¬ y = a) : gI (sI G a k x) y j = gI G y j := if_neg (fun z => h z.1)
theorem sJ_Js {k : Nat} {x : Int64} : gJ (sJ G a k x) a k = x := if_pos ⟨rfl, rfl⟩
theorem sJ_Jk {k y j : Nat} {x : Int64} (h : ¬ j = k) : gJ (sJ G a k x) y j = gJ G y j := if_neg (fun z => h z.2)
theorem sJ_Ja {k y j : Nat} {x : Int64} (h : ¬ y = a) : gJ (sJ G a k x) y j = gJ G y j := if_neg (fun z => h z.1)
theorem sR_Rs {k : Nat} {x : Option Nat} : gR (sR G a k x) a k = x := if_pos ⟨rfl, rfl⟩
theorem sR_Rk {k y j : Nat} {x : Option Nat} (h : ¬ j = k) : gR (sR G a k x) y j = gR G y j := if_neg (fun z => h z.2)
theorem sR_Ra {k y j : Nat} {x : Option Nat} (h : ¬ y = a) : gR (sR G a k x) y j = gR G y j := if_neg (fun z => h z.1)
theorem sRr_s {k : Nat} {f : Nat → Option Nat} : gR (sRr G a f) a k = f k := congrFun (if_pos rfl) k
theorem sRr_o {y k : Nat} {f : Nat → Option Nat} (h : ¬ y = a) : gR (sRr G a f) y k = gR G y k := congrFun (if_neg h) k
theorem sR_Rr {k : Nat} {v : Option Nat} : sR G a k v = sRr G a (va_up (gR G a) k v) := by
  unfold sR sRr
  rw [up2_upr]; rfl
theorem sR_sRr {k : Nat} {v : Option Nat} {f : Nat → Option Nat} : sR (sRr G a f) a k v = sRr G a (va_up f k v) := by
  unfold sR sRr
  dsimp only
  rw [up2_upr, upr_upr]
  congr 5
  unfold upr
  rw [if_pos rfl]
theorem sRr_sRr {f g : Nat → Option Nat} : sRr (sRr G a f) a g = sRr G a g := by
  unfold sRr
  dsimp only
  rw [upr_upr]
theorem sRr_id : sRr G a (gR G a) = G := by
  unfold sRr
  have : upr G.2.2.2.2.1 a (gR G a) = G.2.2.2.2.1 := upr_self _ _
  rw [this]
theorem sI_id {k : Nat} : sI G a k (gI G a k) = G := by rw [sI_Ir, va_up_id, sIr_id]
theorem nv_Ts {t n : Nat} : gT (nw G t n) (gX G) = t := if_pos rfl
theorem nv_T {t n y : Nat} (h : ¬ y = gX G) : gT (nw G t n) y = gT G y := if_neg h
theorem nv_Ns {t n : Nat} : gN (nw G t n) (gX G) = n := if_pos rfl
theorem nv_N {t n y : Nat} (h : ¬ y = gX G) : gN (nw G t n) y = gN G y := if_neg h
theorem nv_Is {t n k : Nat} : gI (nw G t n) (gX G) k = 0 := congrFun (if_pos rfl) k
theorem nv_I {t n y k : Nat} (h : ¬ y = gX G) : gI (nw G t n) y k = gI G y k := congrFun (if_neg h) k
theorem nv_Js {t n k : Nat} : gJ (nw G t n) (gX G) k = 0 := congrFun (if_pos rfl) k
theorem nv_J {t n y k : Nat} (h : ¬ y = gX G) : gJ (nw G t n) y k = gJ G y k := congrFun (if_neg h) k
theorem nv_Rs {t n k : Nat} : gR (nw G t n) (gX G) k = none := congrFun (if_pos rfl) k
theorem nv_R {t n y k : Nat} (h : ¬ y = gX G) : gR (nw G t n) y k = gR G y k := congrFun (if_neg h) k
theorem nv_B {t n : Nat} : gB (nw G t n) = gB G := id rfl
theorem nv_A {t n i : Nat} : gA (nw G t n) i = gA G i := id rfl
theorem nv_X {t n : Nat} : gX (nw G t n) = gX G + 1 := id rfl
theorem nv_S {t n : Nat} : gS (nw G t n) = gS G + n := id rfl
end

/-! ===== a BigInteger of the value z ===== -/
/-- its fields: sign, address of the digits, four caches -/
abbrev BgO (G : GG) (a : Nat) (sg : Int) (m : Nat) (bc bl lb fz : Int) (H : Heap) : Prop := va_at G.2.1 CL (a, .inr (4, [.int (iI sg), .ref m, .int (iI bc), .int (iI bl), .int (iI lb), .int (iI fz)])) H
/-- how many digits at the end are 0 -/
def fnzN (d : Nat → Int) : Nat → Int
  | 0 => 0
  | n + 1 => if d n ≠ 0 then 0 else fnzN d n + 1
/-- sign, digits, caches fit the value -/
def BgOK (G : GG) (a : Nat) (z sg : Int) (n : Nat) (d : Nat → Int) (bl fz : Int) : Prop := digR d n ∧ n ≤ 100 ∧ (0 < n → d 0 ≠ 0) ∧ ((sg = 0 ∧ n = 0) ∨ ((sg = 1 ∨ sg = -1) ∧ 0 < n)) ∧ z = sg * magV d n ∧ (bl = 0 ∨ (0 < bl ∧ bl < 2147483648 ∧ (bl < 61 → -1152921504606846976 ≤ z ∧ z ≤ 1152921504606846976))) ∧ (fz = 0 ∨ sg ≠ -1 ∨ fz = fnzN d n + 2) ∧ (-2147483648 ≤ fz ∧ fz < 2147483648) ∧ (G.1.heap.size ≤ a ∨ (bl ≠ 0 ∧ fz ≠ 0))
def Big (G : GG) (a : Nat) (z : Int) (H : Heap) : Prop := ∃ (m n : Nat) (d : Nat → Int) (sg bc bl lb fz : Int), BgO G a sg m bc bl lb fz H ∧ IR G m n d H ∧ BgOK G a z sg n d bl fz
theorem Big.ext {G : GG} {a : Nat} {z : Int} {H H1 : Heap} (h : Big G a z H) (k : Keep noW H H1) : Big G a z H1 := by
  obtain ⟨m, n, d, sg, bc, bl, lb, fz, h1, h2, h3⟩ := h
  exact ⟨m, n, d, sg, bc, bl, lb, fz, h1.ext k, h2.ext k, h3⟩

/-! ===== ways to be the sum of two cubes; counts over all cells ===== -/
noncomputable def wayF (n i : Int) : Nat → Int → Int → Int
  | 0, _, k => -1 - k
  | f + 1, a, k => if n < 2 * a * a * a then -1 - k else if isCub (n - a * a * a) then (if k = i then a else wayF n i f (a + 1) (k + 1)) else wayF n i f (a + 1) k
noncomputable def wayZ (n i : Int) : Int := wayF n i 100 1 0
noncomputable def wtotF (n : Int) : Nat → Int → Int → Int
  | 0, _, k => k
  | f + 1, a, k => if n < 2 * a * a * a then k else if isCub (n - a * a * a) then wtotF n f (a + 1) (k + 1) else wtotF n f (a + 1) k
noncomputable def wtotZ (n : Int) : Int := wtotF n 100 1 0
theorem wayF_s {n i a k : Int} {z : Int} (h : 0 < z) : wayF n i z.toNat a k = if n < 2 * a * a * a then -1 - k else if isCub (n - a * a * a) then (if k = i then a else wayF n i (z - 1).toNat (a + 1) (k + 1)) else wayF n i (z - 1).toNat (a + 1) k := by
  rw [show z.toNat = (z - 1).toNat + 1 by omega]
  rfl
theorem wtotF_s {n a k : Int} {z : Int} (h : 0 < z) : wtotF n z.toNat a k = if n < 2 * a * a * a then k else if isCub (n - a * a * a) then wtotF n (z - 1).toNat (a + 1) (k + 1) else wtotF n (z - 1).toNat (a + 1) k := by
  rw [show z.toNat = (z - 1).toNat + 1 by omega]
  rfl
theorem way_tot {n i : Int} : ∀ (f : Nat) (a k : Int), k + f ≤ i → wayF n i f a k = -1 - wtotF n f a k := by
  intro f
  induction f with
  | zero => intro a k _; rfl
  | succ f ih =>
    intro a k h
    unfold wayF wtotF
    split
    · rfl
    · split
      · rw [if_neg (by omega)]
        exact ih _ _ (by omega)
      · exact ih _ _ (by omega)
theorem wayZ_tot (n : Int) : wayZ n 1000 = -1 - wtotZ n := way_tot 100 1 0 (by decide)
theorem wtotF_r {n : Int} : ∀ (f : Nat) (a k : Int), k ≤ wtotF n f a k ∧ wtotF n f a k ≤ k + f := by
  intro f
  induction f with
  | zero => intro a k; exact ⟨Int.le_refl _, by show k ≤ k + ((0 : Nat) : Int); omega⟩
  | succ f ih =>
    intro a k
    unfold wtotF
    split
    · omega
    · split
      · have := ih (a + 1) (k + 1); omega
      · have := ih (a + 1) k; omega
theorem wtotZ_r (n : Int) : 0 ≤ wtotZ n ∧ wtotZ n ≤ 100 := by
  have := wtotF_r (n := n) 100 1 0
  unfold wtotZ
  omega
theorem wayF_r {n i : Int} : ∀ (f : Nat) (a k : Int), 1 ≤ a → 0 ≤ k → a + f ≤ 1000 → k + f ≤ 1000 → -1001 ≤ wayF n i f a k ∧ wayF n i f a k ≤ 1000 := by
  intro f
  induction f with
  | zero => intro a k h1 h2 h3 h4; show -1001 ≤ -1 - k ∧ -1 - k ≤ 1000; omega
  | succ f ih =>
    intro a k h1 h2 h3 h4
    unfold wayF
    split
    · omega
    · split
      · split
        · omega
        · exact ih _ _ (by omega) (by omega) (by omega) (by omega)
      · exact ih _ _ (by omega) (by omega) (by omega) (by omega)
theorem wayZ_r (n i : Int) : -1001 ≤ wayZ n i ∧ wayZ n i ≤ 1000 := wayF_r 100 1 0 (by decide) (by decide) (by decide) (by decide)
/-- pairs that are near -/
def nearsZ (c : Nat → Row) : Nat → Int
  | 0 => 0
  | k + 1 => nearsZ c k + cntZ (fun i => b2i (nearR (c k) (c i))) k
theorem nearsZ_s {c : Nat → Row} {z : Int} (h : 0 ≤ z) : nearsZ c (z + 1).toNat = nearsZ c z.toNat + cntZ (fun i => b2i (nearR (c z.toNat) (c i))) z.toNat := by
  rw [show (z + 1).toNat = z.toNat + 1 by omega]
  rfl
theorem nearsZ_r {c : Nat → Row} (n : Nat) (h : n ≤ 8) : 0 ≤ nearsZ c n ∧ nearsZ c n ≤ 8 * n := by
  induction n with
  | zero => exact ⟨Int.le_refl _, Int.le_refl _⟩
  | succ n ih =>
    have h1 := cntZ_r (f := fun i => b2i (nearR (c n) (c i))) (fun j => b2i_r) n
    have h2 := ih (by omega)
    show 0 ≤ nearsZ c n + cntZ (fun i => b2i (nearR (c n) (c i))) n ∧ nearsZ c n + cntZ (fun i => b2i (nearR (c n) (c i))) n ≤ 8 * ((n + 1 : Nat) : Int)
    omega
def houseZ (ac no kn : Int) (c : Nat → Row) (w : Int) : Int := if w = 0 then ac else if w = 1 then no else if w = 2 then kn else if w = 3 then cntZ (fun j => b2i ((c j).1 = 0)) 8 else nearsZ c 8

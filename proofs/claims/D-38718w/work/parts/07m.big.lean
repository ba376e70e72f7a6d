/-! ===== BigInteger: digits of 32 bits, the greatest first ===== -/
def magV (d : Nat → Int) : Nat → Int
  | 0 => 0
  | n + 1 => magV d n * 4294967296 + d n
abbrev digR (d : Nat → Int) (n : Nat) : Prop := ∀ j, j < n → 0 ≤ d j ∧ d j < 4294967296
theorem magV_c {d f : Nat → Int} {n : Nat} (h : ∀ j, j < n → d j = f j) : magV d n = magV f n := by
  induction n with
  | zero => rfl
  | succ n ih =>
    show magV d n * 4294967296 + d n = magV f n * 4294967296 + f n
    rw [ih (fun j hj => h j (by omega)), h n (by omega)]
theorem magV_0 {d : Nat → Int} {n : Nat} (h : digR d n) : 0 ≤ magV d n := by
  induction n with
  | zero => exact Int.le_refl _
  | succ n ih =>
    have h1 := ih (fun j hj => h j (by omega))
    have h2 := h n (by omega)
    show 0 ≤ magV d n * 4294967296 + d n
    omega
theorem magV_lt {d : Nat → Int} {n : Nat} (h : digR d n) : magV d n < 4294967296 ^ n := by
  induction n with
  | zero => exact (by decide : (0 : Int) < 1)
  | succ n ih =>
    have h1 := ih (fun j hj => h j (by omega))
    have h2 := h n (by omega)
    show magV d n * 4294967296 + d n < 4294967296 ^ (n + 1)
    rw [Int.pow_succ]
    omega
theorem magV_ge {d : Nat → Int} {n : Nat} (h : digR d (n + 1)) (h0 : d 0 ≠ 0) : 4294967296 ^ n ≤ magV d (n + 1) := by
  induction n with
  | zero =>
    have := h 0 (by omega)
    show (1 : Int) ≤ 0 * 4294967296 + d 0
    omega
  | succ n ih =>
    have h1 := ih (fun j hj => h j (by omega))
    have h2 := h (n + 1) (by omega)
    show 4294967296 ^ (n + 1) ≤ magV d (n + 1) * 4294967296 + d (n + 1)
    rw [Int.pow_succ]
    omega
/-- the greater digit tells it -/
theorem magV_cmp {d f : Nat → Int} : ∀ {n k : Nat}, k < n → digR d n → digR f n → (∀ j, j < k → d j = f j) → d k < f k → magV d n < magV f n := by
  intro n
  induction n with
  | zero => intro k hk; omega
  | succ n ih =>
    intro k hk h1 h2 h3 h4
    have a1 := h1 n (by omega)
    have a2 := h2 n (by omega)
    show magV d n * 4294967296 + d n < magV f n * 4294967296 + f n
    rcases Nat.lt_or_ge k n with q | q
    · have := ih q (fun j hj => h1 j (by omega)) (fun j hj => h2 j (by omega)) h3 h4
      omega
    · have e : k = n := by omega
      subst e
      rw [magV_c h3]
      omega

/-! ===== more of the picture: one step of a count; bits; sums ===== -/
theorem cnt_up {f : Nat → Int} {z k v : Int} (h : 0 ≤ z) (hk : k = cntZ f z.toNat) (hv : v = f z.toNat) : k + v = cntZ f (z + 1).toNat := by
  rw [cntZ_s h, ← hk, ← hv]
theorem toNat_cast {z : Int} (h : 0 ≤ z) : ((z.toNat : Nat) : Int) = z := Int.toNat_of_nonneg h
/-- the bits of a told number -/
def bitsZ (r : Row) : Int := (if r.2.2 = 1 then -9223372036854775808 else 0) + (if r.1 = 1 then 9218868437227405312 else if r.2.1 = 0 then 0 else (1020 + lgZ r.2.1) * 2 ^ 52 + ((r.2.1.natAbs : Int) - 2 ^ (lgZ r.2.1).toNat) * 2 ^ (52 - lgZ r.2.1).toNat)
theorem bitsZ_m {t : Int} (h0 : t ≠ 0) (hb : -524280 ≤ t ∧ t ≤ 524280) : 0 ≤ ((t.natAbs : Int) - 2 ^ (lgZ t).toNat) * 2 ^ (52 - lgZ t).toNat ∧ ((t.natAbs : Int) - 2 ^ (lgZ t).toNat) * 2 ^ (52 - lgZ t).toNat < 2 ^ 52 := by
  have hn : t.natAbs ≠ 0 := by omega
  have h1 : 2 ^ t.natAbs.log2 ≤ t.natAbs := Nat.log2_self_le hn
  have h2 : t.natAbs < 2 ^ (t.natAbs.log2 + 1) := Nat.lt_log2_self
  have h3 : t.natAbs.log2 < 20 := (Nat.log2_lt hn).mpr (by omega)
  have e1 : (lgZ t).toNat = t.natAbs.log2 := rfl
  have e2 : (52 - lgZ t).toNat = 52 - t.natAbs.log2 := by have : lgZ t = (t.natAbs.log2 : Int) := rfl; omega
  rw [e1, e2]
  generalize hg : t.natAbs.log2 = g at h1 h2 h3
  have h4 : (t.natAbs - 2 ^ g) * 2 ^ (52 - g) < 2 ^ 52 := by
    have h5 : t.natAbs - 2 ^ g < 2 ^ g := by rw [Nat.pow_succ] at h2; omega
    have h6 : (t.natAbs - 2 ^ g) * 2 ^ (52 - g) < 2 ^ g * 2 ^ (52 - g) := Nat.mul_lt_mul_of_pos_right h5 (Nat.two_pow_pos _)
    rw [← Nat.pow_add, show g + (52 - g) = 52 by omega] at h6
    exact h6
  have h7 : (((t.natAbs - 2 ^ g) * 2 ^ (52 - g) : Nat) : Int) = ((t.natAbs : Int) - 2 ^ g) * 2 ^ (52 - g) := by
    rw [Int.natCast_mul, Int.ofNat_sub h1, Int.natCast_pow, Int.natCast_pow]; rfl
  rw [← h7]
  have h8 : ((2 ^ 52 : Nat) : Int) = 2 ^ 52 := by decide
  omega
theorem lgZ_b {t : Int} (hb : -524280 ≤ t ∧ t ≤ 524280) : 0 ≤ lgZ t ∧ lgZ t ≤ 19 := by
  have e : lgZ t = (t.natAbs.log2 : Int) := rfl
  by_cases h : t.natAbs = 0
  · rw [e, h]; decide
  · have := (Nat.log2_lt h (k := 20)).mpr (by omega); omega
theorem bitsZ_r {r : Row} (h : bRow r) : -9223372036854775808 ≤ bitsZ r ∧ bitsZ r ≤ 9223372036854775807 := by
  have h1 := lgZ_b (t := r.2.1) (by omega)
  unfold bitsZ
  by_cases c1 : r.2.2 = 1
  · rw [if_pos c1]
    by_cases c2 : r.1 = 1
    · rw [if_pos c2]; omega
    · rw [if_neg c2]
      by_cases c3 : r.2.1 = 0
      · rw [if_pos c3]; omega
      · rw [if_neg c3]
        have := bitsZ_m c3 (by omega)
        omega
  · rw [if_neg c1]
    by_cases c2 : r.1 = 1
    · rw [if_pos c2]; omega
    · rw [if_neg c2]
      by_cases c3 : r.2.1 = 0
      · rw [if_pos c3]; omega
      · rw [if_neg c3]
        have := bitsZ_m c3 (by omega)
        omega

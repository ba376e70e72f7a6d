/-! ===== shifts by a told count; signs of xor; leading and trailing zeros ===== -/
section XC
variable {p : Program} {l : Launch} {e : Env} {R : Room} {s : State} {m : MethodId} {args : Array Value} {below : List Frame} {meth : Method} {c : Code} {H : Heap} {locs : List Loc} {cells slots : Nat} {Q : State → Prop} {cc : ByteArray} {pc : Nat} {ls : Array Slot} {rest : List Value}
theorem xi_iushrL (M : Int) (hx : p.tables.exec = Jvm.exec) (hb : c.code = cc) {a z : Int} (hz : 0 ≤ z ∧ z < 32) (hM : 2 ^ z.toNat = M) (d : decode cc pc = .ok (.iushr, 1)) (k : W p l e R s m args below meth c H locs cells slots Q (F0 m (pc + 1) ls (.int (iI (a % 4294967296 / M)) :: rest))) : W p l e R s m args below meth c H locs cells slots Q (F0 m (pc) ls (.int (iI z) :: .int (iI a) :: rest)) := xi_iushr hx hb hz d (by rw [hM]; exact k)
theorem xi_lushrL (M : Int) (hx : p.tables.exec = Jvm.exec) (hb : c.code = cc) {a z : Int} (hz : 0 ≤ z ∧ z < 64) (hM : 2 ^ z.toNat = M) (d : decode cc pc = .ok (.lushr, 1)) (k : W p l e R s m args below meth c H locs cells slots Q (F0 m (pc + 1) ls (.long (jI (a % 18446744073709551616 / M)) :: rest))) : W p l e R s m args below meth c H locs cells slots Q (F0 m (pc) ls (.int (iI z) :: .long (jI a) :: rest)) := xi_lushr hx hb hz d (by rw [hM]; exact k)
theorem xi_lshrL (M : Int) (hx : p.tables.exec = Jvm.exec) (hb : c.code = cc) {a z : Int} (ha : (-9223372036854775808 ≤ a ∧ a < 9223372036854775808)) (hz : 0 ≤ z ∧ z < 64) (hM : 2 ^ z.toNat = M) (d : decode cc pc = .ok (.lshr, 1)) (k : W p l e R s m args below meth c H locs cells slots Q (F0 m (pc + 1) ls (.long (jI (a / M)) :: rest))) : W p l e R s m args below meth c H locs cells slots Q (F0 m (pc) ls (.int (iI z) :: .long (jI a) :: rest)) := xi_lshr hx hb ha hz d (by rw [hM]; exact k)
theorem xi_lshlL (M : Int) (hx : p.tables.exec = Jvm.exec) (hb : c.code = cc) {a z : Int} (hz : 0 ≤ z ∧ z < 64) (hM : 2 ^ z.toNat = M) (d : decode cc pc = .ok (.lshl, 1)) (k : W p l e R s m args below meth c H locs cells slots Q (F0 m (pc + 1) ls (.long (jI (a * M)) :: rest))) : W p l e R s m args below meth c H locs cells slots Q (F0 m (pc) ls (.int (iI z) :: .long (jI a) :: rest)) := xi_lshl hx hb hz d (by rw [hM]; exact k)
theorem xi_ishlL (M : Int) (hx : p.tables.exec = Jvm.exec) (hb : c.code = cc) {a z : Int} (hz : 0 ≤ z ∧ z < 32) (hM : 2 ^ z.toNat = M) (d : decode cc pc = .ok (.ishl, 1)) (k : W p l e R s m args below meth c H locs cells slots Q (F0 m (pc + 1) ls (.int (iI (a * M)) :: rest))) : W p l e R s m args below meth c H locs cells slots Q (F0 m (pc) ls (.int (iI z) :: .int (iI a) :: rest)) := xi_ishl hx hb hz d (by rw [hM]; exact k)
theorem xj_wrap {a : Int} (k : ∀ z : Int, (-9223372036854775808 ≤ z ∧ z < 9223372036854775808) → (∃ q : Int, a = z + 18446744073709551616 * q) → W p l e R s m args below meth c H locs cells slots Q (F0 m (pc) ls (.long (jI z) :: rest))) : W p l e R s m args below meth c H locs cells slots Q (F0 m (pc) ls (.long (jI a) :: rest)) := by
  obtain ⟨z, e1, e2⟩ := jI_ex (jI a)
  rw [e1]
  refine k z e2 ?_
  have h1 : (jI a).toInt = z := by rw [e1, jI_t e2]
  have h2 : (jI a).toInt = a.bmod (2 ^ 64) := Int64.toInt_ofInt ..
  rw [h1] at h2
  refine ⟨(a - z) / 18446744073709551616, ?_⟩
  unfold Int.bmod at h2
  dsimp only at h2
  split at h2 <;> omega
end XC
theorem xorJ_s {x y : Int} (hx : -9223372036854775808 ≤ x ∧ x < 9223372036854775808) (hy : 0 ≤ y ∧ y < 9223372036854775808) : (x < 0 → 9223372036854775808 ≤ xorJ x y ∧ xorJ x y < 18446744073709551616) ∧ (0 ≤ x → 0 ≤ xorJ x y ∧ xorJ x y < 9223372036854775808) := by
  have h1 : ((x % 18446744073709551616).toNat ^^^ (y % 18446744073709551616).toNat) / 2 ^ 63 = ((x % 18446744073709551616).toNat / 2 ^ 63) ^^^ ((y % 18446744073709551616).toNat / 2 ^ 63) := Nat.xor_div_two_pow
  have h2 : ((x % 18446744073709551616).toNat ^^^ (y % 18446744073709551616).toNat) < 2 ^ 64 := Nat.xor_lt_two_pow (by omega) (by omega)
  have h3 : (y % 18446744073709551616).toNat / 2 ^ 63 = 0 := by omega
  rw [h3, Nat.xor_zero] at h1
  unfold xorJ
  generalize ((x % 18446744073709551616).toNat ^^^ (y % 18446744073709551616).toNat) = v at *
  constructor
  · intro h; omega
  · intro h; omega
theorem lg_sh : ∀ (n m : Nat), 2 ^ n ≤ m → Nat.log2 m = n + Nat.log2 (m / 2 ^ n) := by
  intro n
  induction n with
  | zero => intro m _; simp
  | succ n ih =>
    intro m h
    have h0 : 0 < 2 ^ n := Nat.two_pow_pos n
    rw [Nat.pow_succ] at h
    have h1 := ih (m / 2) (by omega)
    have h2 : Nat.log2 m = Nat.log2 (m / 2) + 1 := by rw [Nat.log2_def, if_pos (by omega)]
    have h3 : m / 2 / 2 ^ n = m / 2 ^ (n + 1) := by rw [Nat.div_div_eq_div_mul, Nat.pow_succ, Nat.mul_comm 2]
    rw [h2, h1, h3]
    omega
theorem ntz_and {i : Int} {k : Nat} (hk : k < 32 ∧ i % 4294967296 = 2 ^ k) : andI (xorI i (-1)) (i - 1) = 2 ^ k - 1 := by
  have h0 : ∀ k : Fin 32, ((2 ^ k.val ^^^ 4294967295) % 4294967296 &&& ((2 ^ k.val + 4294967295) % 4294967296) : Nat) = 2 ^ k.val - 1 := by decide +kernel
  have h1 := h0 ⟨k, hk.1⟩
  have e0 : ((2 ^ k : Nat) : Int) = 2 ^ k := by rw [Int.natCast_pow]; rfl
  have e1 : (i % 4294967296).toNat = 2 ^ k := by omega
  have e2 : ((i - 1) % 4294967296).toNat = (2 ^ k + 4294967295) % 4294967296 := by omega
  have p0 : 0 < 2 ^ k := Nat.two_pow_pos k
  unfold andI xorI
  rw [e1, e2, show ((-1 : Int) % 4294967296).toNat = 4294967295 by decide]
  have e3 : ((((2 ^ k ^^^ 4294967295 : Nat) : Int) % 4294967296).toNat) = (2 ^ k ^^^ 4294967295) % 4294967296 := by omega
  rw [e3]
  have h1 : ((2 ^ k ^^^ 4294967295) % 4294967296 &&& ((2 ^ k + 4294967295) % 4294967296) : Nat) = 2 ^ k - 1 := h1
  rw [h1]
  omega
theorem ntz_sh {w M : Int} {k n : Nat} (h : w = 2 ^ k - 1) (hM : (M : Int) = 2 ^ n) (hw : M < w) : n ≤ k ∧ w / M = 2 ^ (k - n) - 1 := by
  have e0 : ∀ j : Nat, ((2 ^ j : Nat) : Int) = 2 ^ j := fun j => by rw [Int.natCast_pow]; rfl
  have h1 : n ≤ k := by
    rcases Nat.lt_or_ge k n with q | q
    · have := Nat.pow_le_pow_right (n := 2) (by omega) (Nat.le_of_lt q)
      have := e0 k; have := e0 n; omega
    · exact q
  refine ⟨h1, ?_⟩
  have h2 : (2 : Int) ^ k = M * 2 ^ (k - n) := by
    rw [hM, ← e0, ← e0, ← e0, ← Int.natCast_mul, ← Nat.pow_add, show n + (k - n) = k by omega]
  have p0 : 0 < M := by have := Nat.two_pow_pos n; have := e0 n; omega
  have e4 : w = (M - 1) + M * (2 ^ (k - n) - 1) := by rw [h, h2, Int.mul_sub]; omega
  rw [e4, Int.add_mul_ediv_left _ _ (by omega), Int.ediv_eq_zero_of_lt (by omega) (by omega)]
  omega
theorem ntz_b {w : Int} {k : Nat} (h : w = 2 ^ k - 1) (h0 : 0 < w) (h4 : w ≤ 4) : (k : Int) = 1 + w / 2 := by
  have e0 : ∀ j : Nat, ((2 ^ j : Nat) : Int) = 2 ^ j := fun j => by rw [Int.natCast_pow]; rfl
  have h1 : k < 3 := by
    rcases Nat.lt_or_ge k 3 with q | q
    · exact q
    · have := Nat.pow_le_pow_right (n := 2) (by omega) q
      have := e0 k; omega
  match k, h1 with
  | 0, _ => omega
  | 1, _ => omega
  | 2, _ => omega
theorem ntz_0 {w : Int} {k : Nat} (h : w = 2 ^ k - 1) (h0 : w ≤ 0) : k = 0 ∧ w = 0 := by
  have e0 : ((2 ^ k : Nat) : Int) = 2 ^ k := by rw [Int.natCast_pow]; rfl
  rcases Nat.lt_or_ge 0 k with q | q
  · have := Nat.pow_le_pow_right (n := 2) (by omega) q
    omega
  · have : k = 0 := by omega
    subst this
    exact ⟨rfl, by omega⟩
/-- the steps of the count of bits, over ints -/
theorem popI_1 {i : Int} : ((i - andI (i % 4294967296 / 2) 1431655765) % 4294967296).toNat = pop1 (i % 4294967296).toNat := by
  unfold andI pop1
  have e1 : (i % 4294967296 / 2 % 4294967296).toNat = (i % 4294967296).toNat / 2 := by omega
  rw [e1, show ((1431655765 : Int) % 4294967296).toNat = 1431655765 by decide]
  have h1 : (i % 4294967296).toNat / 2 &&& 1431655765 ≤ (i % 4294967296).toNat / 2 := Nat.and_le_left
  generalize ((i % 4294967296).toNat / 2 &&& 1431655765) = v at *
  omega
theorem popI_2 {v : Int} : andI v 858993459 + andI (v % 4294967296 / 4) 858993459 = ((pop2 (v % 4294967296).toNat : Nat) : Int) := by
  unfold andI pop2
  rw [show (v % 4294967296 / 4 % 4294967296).toNat = (v % 4294967296).toNat / 4 by omega, show ((858993459 : Int) % 4294967296).toNat = 858993459 by decide]
  omega
theorem pop2_le (n : Nat) : pop2 n ≤ 1717986918 := by
  have h1 : n &&& 858993459 ≤ 858993459 := Nat.and_le_right
  have h2 : n / 4 &&& 858993459 ≤ 858993459 := Nat.and_le_right
  unfold pop2; omega
theorem popI_3 {v : Nat} (h : v ≤ 1717986918) : andI ((v : Int) + (v : Int) % 4294967296 / 16) 252645135 = ((pop3 v : Nat) : Int) := by
  unfold andI pop3
  rw [show (((v : Int) + (v : Int) % 4294967296 / 16) % 4294967296).toNat = v + v / 16 by omega, show ((252645135 : Int) % 4294967296).toNat = 252645135 by decide]
theorem pop3_le (n : Nat) : pop3 n ≤ 252645135 := Nat.and_le_right

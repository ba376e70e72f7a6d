/-! ===== shifts ===== -/
theorem sh_j : ∀ n : Fin 64, ((iI ((n : Nat) : Int)).toInt64 &&& 63).toBitVec.smod 64 = BitVec.ofNat 64 n := by decide +kernel
theorem sh_i : ∀ n : Fin 32, (iI ((n : Nat) : Int) &&& 31).toBitVec.smod 32 = BitVec.ofNat 32 n := by decide +kernel
theorem sh_tw (w n : Nat) : BitVec.twoPow w n = BitVec.ofInt w (2 ^ n) := by
  rw [show ((2 : Int) ^ n) = ((2 ^ n : Nat) : Int) by rw [Int.natCast_pow]; rfl, BitVec.ofInt_natCast]
  exact BitVec.eq_of_toNat_eq (by simp [BitVec.toNat_twoPow])
theorem jI_shl {a z : Int} (hz : 0 ≤ z ∧ z < 64) : jI a <<< ((iI z).toInt64 &&& 63) = jI (a * 2 ^ z.toNat) := by
  obtain ⟨n, rfl⟩ : ∃ n : Nat, z = n := ⟨z.toNat, by omega⟩
  have hn : n < 64 := by omega
  apply Int64.toBitVec_inj.mp
  rw [Int64.toBitVec_shiftLeft, sh_j ⟨n, hn⟩, Int.toNat_natCast]
  show BitVec.ofInt 64 a <<< BitVec.ofNat 64 n = BitVec.ofInt 64 (a * 2 ^ n)
  rw [BitVec.ofInt_mul, ← sh_tw, ← BitVec.shiftLeft_eq_mul_twoPow]
  show BitVec.ofInt 64 a <<< (BitVec.ofNat 64 n).toNat = _
  rw [BitVec.toNat_ofNat, Nat.mod_eq_of_lt (by omega)]
theorem iI_shl {a z : Int} (hz : 0 ≤ z ∧ z < 32) : iI a <<< (iI z &&& 31) = iI (a * 2 ^ z.toNat) := by
  obtain ⟨n, rfl⟩ : ∃ n : Nat, z = n := ⟨z.toNat, by omega⟩
  have hn : n < 32 := by omega
  apply Int32.toBitVec_inj.mp
  rw [Int32.toBitVec_shiftLeft, sh_i ⟨n, hn⟩, Int.toNat_natCast]
  show BitVec.ofInt 32 a <<< BitVec.ofNat 32 n = BitVec.ofInt 32 (a * 2 ^ n)
  rw [BitVec.ofInt_mul, ← sh_tw, ← BitVec.shiftLeft_eq_mul_twoPow]
  show BitVec.ofInt 32 a <<< (BitVec.ofNat 32 n).toNat = _
  rw [BitVec.toNat_ofNat, Nat.mod_eq_of_lt (by omega)]
theorem jI_shr {a z : Int} (ha : -9223372036854775808 ≤ a ∧ a < 9223372036854775808) (hz : 0 ≤ z ∧ z < 64) : jI a >>> ((iI z).toInt64 &&& 63) = jI (a / 2 ^ z.toNat) := by
  obtain ⟨n, rfl⟩ : ∃ n : Nat, z = n := ⟨z.toNat, by omega⟩
  have hn : n < 64 := by omega
  refine jI_c ?_
  rw [Jvm.Kit.i64_shr (k := n) _ _ (by rw [sh_j ⟨n, hn⟩, BitVec.toNat_ofNat, Nat.mod_eq_of_lt (by omega)]), jI_t ha]
  rfl
theorem iI_shr {a z : Int} (ha : -2147483648 ≤ a ∧ a < 2147483648) (hz : 0 ≤ z ∧ z < 32) : iI a >>> (iI z &&& 31) = iI (a / 2 ^ z.toNat) := by
  obtain ⟨n, rfl⟩ : ∃ n : Nat, z = n := ⟨z.toNat, by omega⟩
  have hn : n < 32 := by omega
  refine iI_c ?_
  rw [Jvm.Kit.i32_shr (k := n) _ _ (by rw [sh_i ⟨n, hn⟩, BitVec.toNat_ofNat, Nat.mod_eq_of_lt (by omega)]), iI_t ha]
  rfl
/-- an int's 32 bits as a number -/
theorem iI_tn {a : Int} : (iI a).toUInt32.toNat = (a % 4294967296).toNat := by
  show (BitVec.ofInt 32 a).toNat = _
  rw [BitVec.toNat_ofInt]; rfl
theorem jI_tn {a : Int} : (jI a).toUInt64.toNat = (a % 18446744073709551616).toNat := by
  show (BitVec.ofInt 64 a).toNat = _
  rw [BitVec.toNat_ofInt]; rfl
theorem u32_iI (n : UInt32) : n.toInt32 = iI (n.toNat : Int) := by
  apply Int32.toBitVec_inj.mp
  show n.toBitVec = BitVec.ofInt 32 _
  rw [BitVec.ofInt_natCast]
  exact BitVec.eq_of_toNat_eq (by simp)
theorem u64_jI (n : UInt64) : n.toInt64 = jI (n.toNat : Int) := by
  apply Int64.toBitVec_inj.mp
  show n.toBitVec = BitVec.ofInt 64 _
  rw [BitVec.ofInt_natCast]
  exact BitVec.eq_of_toNat_eq (by simp)
theorem su_i : ∀ n : Fin 32, ((iI ((n : Nat) : Int)).toUInt32 &&& Int32.toUInt32 31).toNat = n := by decide +kernel
theorem su_j : ∀ n : Fin 64, ((iI ((n : Nat) : Int)).toInt64.toUInt64 &&& Int64.toUInt64 63).toNat = n := by decide +kernel
theorem iI_ushr {a z : Int} (hz : 0 ≤ z ∧ z < 32) : ((iI a).toUInt32 >>> ((iI z).toUInt32 &&& Int32.toUInt32 31)).toInt32 = iI (a % 4294967296 / 2 ^ z.toNat) := by
  obtain ⟨n, rfl⟩ : ∃ n : Nat, z = n := ⟨z.toNat, by omega⟩
  have hn : n < 32 := by omega
  rw [u32_iI, UInt32.toNat_shiftRight, su_i ⟨n, hn⟩, iI_tn, Int.toNat_natCast]
  show iI (((a % 4294967296).toNat >>> (n % 32) : Nat) : Int) = _
  rw [Nat.mod_eq_of_lt hn, Nat.shiftRight_eq_div_pow, Int.natCast_ediv, Int.toNat_of_nonneg (Int.emod_nonneg _ (by decide)), Int.natCast_pow]
  rfl
theorem jI_ushr {a z : Int} (hz : 0 ≤ z ∧ z < 64) : ((jI a).toUInt64 >>> ((iI z).toInt64.toUInt64 &&& Int64.toUInt64 63)).toInt64 = jI (a % 18446744073709551616 / 2 ^ z.toNat) := by
  obtain ⟨n, rfl⟩ : ∃ n : Nat, z = n := ⟨z.toNat, by omega⟩
  have hn : n < 64 := by omega
  rw [u64_jI, UInt64.toNat_shiftRight, su_j ⟨n, hn⟩, jI_tn, Int.toNat_natCast]
  show jI (((a % 18446744073709551616).toNat >>> (n % 64) : Nat) : Int) = _
  rw [Nat.mod_eq_of_lt hn, Nat.shiftRight_eq_div_pow, Int.natCast_ediv, Int.toNat_of_nonneg (Int.emod_nonneg _ (by decide)), Int.natCast_pow]
  rfl
/-- a mask of k ones -/
theorem iI_mask {a b : Int} (k : Nat) (hk : k < 31) (hb : b = 2 ^ k - 1) : iI a &&& iI b = iI (a % 2 ^ k) := by
  subst hb
  apply Int32.toBitVec_inj.mp
  show BitVec.ofInt 32 a &&& BitVec.ofInt 32 (2 ^ k - 1) = BitVec.ofInt 32 (a % 2 ^ k)
  apply BitVec.eq_of_toNat_eq
  have h1 : ((2 : Int) ^ k - 1) = ((2 ^ k - 1 : Nat) : Int) := by
    have : 1 ≤ 2 ^ k := Nat.one_le_two_pow
    rw [Int.natCast_sub this, Int.natCast_pow]; rfl
  have h2 : 2 ^ k < 2 ^ 32 := Nat.pow_lt_pow_right (by decide) (by omega)
  have h3 : (2 : Int) ^ k = ((2 ^ k : Nat) : Int) := by rw [Int.natCast_pow]; rfl
  rw [BitVec.toNat_and, BitVec.toNat_ofInt, BitVec.toNat_ofInt, BitVec.toNat_ofInt, h1, h3]
  have h4 : (((2 ^ k - 1 : Nat) : Int) % ((2 ^ 32 : Nat) : Int)).toNat = 2 ^ k - 1 := by
    rw [← Int.natCast_emod, Int.toNat_natCast, Nat.mod_eq_of_lt (by omega)]
  rw [h4, Nat.and_two_pow_sub_one_eq_mod]
  have h5 : (0 : Int) ≤ a % ((2 ^ 32 : Nat) : Int) := Int.emod_nonneg _ (by decide)
  have h6 : (0 : Int) ≤ a % ((2 ^ k : Nat) : Int) := Int.emod_nonneg _ (by have := Nat.one_le_two_pow (n := k); omega)
  have h7 : a % ((2 ^ k : Nat) : Int) < ((2 ^ k : Nat) : Int) := Int.emod_lt_of_pos _ (by have := Nat.one_le_two_pow (n := k); omega)
  have h8 : ((a % ((2 ^ 32 : Nat) : Int)).toNat % 2 ^ k : Nat) = (a % ((2 ^ k : Nat) : Int)).toNat := by
    have e1 : (((a % ((2 ^ 32 : Nat) : Int)).toNat % 2 ^ k : Nat) : Int) = a % ((2 ^ k : Nat) : Int) := by
      rw [Int.natCast_emod, Int.toNat_of_nonneg h5]
      refine Int.emod_emod_of_dvd _ ?_
      exact Int.natCast_dvd_natCast.mpr (Nat.pow_dvd_pow 2 (by omega))
    omega
  rw [h8]
  have h9 : (((a % ((2 ^ k : Nat) : Int)) % ((2 ^ 32 : Nat) : Int)).toNat) = (a % ((2 ^ k : Nat) : Int)).toNat := by
    rw [Int.emod_eq_of_lt h6 (by omega)]
  exact h9.symm
theorem jI_mask {a b : Int} (k : Nat) (hk : k < 63) (hb : b = 2 ^ k - 1) : jI a &&& jI b = jI (a % 2 ^ k) := by
  subst hb
  apply Int64.toBitVec_inj.mp
  show BitVec.ofInt 64 a &&& BitVec.ofInt 64 (2 ^ k - 1) = BitVec.ofInt 64 (a % 2 ^ k)
  apply BitVec.eq_of_toNat_eq
  have h1 : ((2 : Int) ^ k - 1) = ((2 ^ k - 1 : Nat) : Int) := by
    have : 1 ≤ 2 ^ k := Nat.one_le_two_pow
    rw [Int.natCast_sub this, Int.natCast_pow]; rfl
  have h2 : 2 ^ k < 2 ^ 64 := Nat.pow_lt_pow_right (by decide) (by omega)
  have h3 : (2 : Int) ^ k = ((2 ^ k : Nat) : Int) := by rw [Int.natCast_pow]; rfl
  rw [BitVec.toNat_and, BitVec.toNat_ofInt, BitVec.toNat_ofInt, BitVec.toNat_ofInt, h1, h3]
  have h4 : (((2 ^ k - 1 : Nat) : Int) % ((2 ^ 64 : Nat) : Int)).toNat = 2 ^ k - 1 := by
    rw [← Int.natCast_emod, Int.toNat_natCast, Nat.mod_eq_of_lt (by omega)]
  rw [h4, Nat.and_two_pow_sub_one_eq_mod]
  have h5 : (0 : Int) ≤ a % ((2 ^ 64 : Nat) : Int) := Int.emod_nonneg _ (by decide)
  have h6 : (0 : Int) ≤ a % ((2 ^ k : Nat) : Int) := Int.emod_nonneg _ (by have := Nat.one_le_two_pow (n := k); omega)
  have h7 : a % ((2 ^ k : Nat) : Int) < ((2 ^ k : Nat) : Int) := Int.emod_lt_of_pos _ (by have := Nat.one_le_two_pow (n := k); omega)
  have h8 : ((a % ((2 ^ 64 : Nat) : Int)).toNat % 2 ^ k : Nat) = (a % ((2 ^ k : Nat) : Int)).toNat := by
    have e1 : (((a % ((2 ^ 64 : Nat) : Int)).toNat % 2 ^ k : Nat) : Int) = a % ((2 ^ k : Nat) : Int) := by
      rw [Int.natCast_emod, Int.toNat_of_nonneg h5]
      refine Int.emod_emod_of_dvd _ ?_
      exact Int.natCast_dvd_natCast.mpr (Nat.pow_dvd_pow 2 (by omega))
    omega
  rw [h8]
  have h9 : (((a % ((2 ^ k : Nat) : Int)) % ((2 ^ 64 : Nat) : Int)).toNat) = (a % ((2 ^ k : Nat) : Int)).toNat := by
    rw [Int.emod_eq_of_lt h6 (by omega)]
  exact h9.symm
section XS
variable {p : Program} {l : Launch} {e : Env} {R : Room} {s : State} {m : MethodId} {args : Array Value} {below : List Frame} {meth : Method} {c : Code} {H : Heap} {locs : List Loc} {cells slots : Nat} {Q : State → Prop}
variable {cc : ByteArray} {pc : Nat} {ls : Array Slot} {rest : List Value}
theorem xi_lshl (hx : p.tables.exec = Jvm.exec) (hb : c.code = cc) {a z : Int} (hz : 0 ≤ z ∧ z < 64) (d : decode cc pc = .ok (.lshl, 1)) (k : W p l e R s m args below meth c H locs cells slots Q (F0 m (pc + 1) ls (.long (jI (a * 2 ^ z.toNat)) :: rest))) : W p l e R s m args below meth c H locs cells slots Q (F0 m (pc) ls (.int (iI z) :: .long (jI a) :: rest)) := lv_lshl hx hb d (jI_shl hz) k
theorem xi_lshr (hx : p.tables.exec = Jvm.exec) (hb : c.code = cc) {a z : Int} (ha : (-9223372036854775808 ≤ a ∧ a < 9223372036854775808)) (hz : 0 ≤ z ∧ z < 64) (d : decode cc pc = .ok (.lshr, 1)) (k : W p l e R s m args below meth c H locs cells slots Q (F0 m (pc + 1) ls (.long (jI (a / 2 ^ z.toNat)) :: rest))) : W p l e R s m args below meth c H locs cells slots Q (F0 m (pc) ls (.int (iI z) :: .long (jI a) :: rest)) := lv_lshr hx hb d (jI_shr ha hz) k
theorem xi_lushr (hx : p.tables.exec = Jvm.exec) (hb : c.code = cc) {a z : Int} (hz : 0 ≤ z ∧ z < 64) (d : decode cc pc = .ok (.lushr, 1)) (k : W p l e R s m args below meth c H locs cells slots Q (F0 m (pc + 1) ls (.long (jI (a % 18446744073709551616 / 2 ^ z.toNat)) :: rest))) : W p l e R s m args below meth c H locs cells slots Q (F0 m (pc) ls (.int (iI z) :: .long (jI a) :: rest)) := lv_lushr hx hb d (jI_ushr hz) k
theorem xi_iushr (hx : p.tables.exec = Jvm.exec) (hb : c.code = cc) {a z : Int} (hz : 0 ≤ z ∧ z < 32) (d : decode cc pc = .ok (.iushr, 1)) (k : W p l e R s m args below meth c H locs cells slots Q (F0 m (pc + 1) ls (.int (iI (a % 4294967296 / 2 ^ z.toNat)) :: rest))) : W p l e R s m args below meth c H locs cells slots Q (F0 m (pc) ls (.int (iI z) :: .int (iI a) :: rest)) := lv_iushr hx hb d (iI_ushr hz) k
theorem xi_ishl (hx : p.tables.exec = Jvm.exec) (hb : c.code = cc) {a z : Int} (hz : 0 ≤ z ∧ z < 32) (d : decode cc pc = .ok (.ishl, 1)) (k : W p l e R s m args below meth c H locs cells slots Q (F0 m (pc + 1) ls (.int (iI (a * 2 ^ z.toNat)) :: rest))) : W p l e R s m args below meth c H locs cells slots Q (F0 m (pc) ls (.int (iI z) :: .int (iI a) :: rest)) := lv_ishl hx hb d (by rw [iI_shl hz]; exact k)
theorem xi_ishr (hx : p.tables.exec = Jvm.exec) (hb : c.code = cc) {a z : Int} (ha : (-2147483648 ≤ a ∧ a < 2147483648)) (hz : 0 ≤ z ∧ z < 32) (d : decode cc pc = .ok (.ishr, 1)) (k : W p l e R s m args below meth c H locs cells slots Q (F0 m (pc + 1) ls (.int (iI (a / 2 ^ z.toNat)) :: rest))) : W p l e R s m args below meth c H locs cells slots Q (F0 m (pc) ls (.int (iI z) :: .int (iI a) :: rest)) := lv_ishr hx hb d (by rw [iI_shr ha hz]; exact k)
theorem xi_iandm (hx : p.tables.exec = Jvm.exec) (hb : c.code = cc) {a b : Int} (n : Nat) (hn : n < 31) (hbm : b = 2 ^ n - 1) (d : decode cc pc = .ok (.iand, 1)) (k : W p l e R s m args below meth c H locs cells slots Q (F0 m (pc + 1) ls (.int (iI (a % 2 ^ n)) :: rest))) : W p l e R s m args below meth c H locs cells slots Q (F0 m (pc) ls (.int (iI b) :: .int (iI a) :: rest)) := lv_iand hx hb d (by rw [iI_mask n hn hbm]; exact k)
theorem xi_landm (hx : p.tables.exec = Jvm.exec) (hb : c.code = cc) {a b : Int} (n : Nat) (hn : n < 63) (hbm : b = 2 ^ n - 1) (d : decode cc pc = .ok (.land, 1)) (k : W p l e R s m args below meth c H locs cells slots Q (F0 m (pc + 1) ls (.long (jI (a % 2 ^ n)) :: rest))) : W p l e R s m args below meth c H locs cells slots Q (F0 m (pc) ls (.long (jI b) :: .long (jI a) :: rest)) := lv_land hx hb d (by rw [jI_mask n hn hbm]; exact k)
theorem xi_wrap {a : Int} (k : ∀ z : Int, (-2147483648 ≤ z ∧ z < 2147483648) → ((-2147483648 ≤ a ∧ a < 2147483648) → z = a) → W p l e R s m args below meth c H locs cells slots Q (F0 m (pc) ls (.int (iI z) :: rest))) : W p l e R s m args below meth c H locs cells slots Q (F0 m (pc) ls (.int (iI a) :: rest)) := by
  obtain ⟨z, hz, hr⟩ := iI_ex (iI a)
  rw [hz]
  exact k z hr (fun h => by have h1 := iI_t h; rw [hz, iI_t hr] at h1; exact h1)
end XS

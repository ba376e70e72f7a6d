/-! ===== and, or, xor of ints; how many bits ===== -/
def andI (a b : Int) : Int := (((a % 4294967296).toNat &&& (b % 4294967296).toNat : Nat) : Int)
def orI (a b : Int) : Int := (((a % 4294967296).toNat ||| (b % 4294967296).toNat : Nat) : Int)
def xorI (a b : Int) : Int := (((a % 4294967296).toNat ^^^ (b % 4294967296).toNat : Nat) : Int)
def xorJ (a b : Int) : Int := (((a % 18446744073709551616).toNat ^^^ (b % 18446744073709551616).toNat : Nat) : Int)
def andJ (a b : Int) : Int := (((a % 18446744073709551616).toNat &&& (b % 18446744073709551616).toNat : Nat) : Int)
def orJ (a b : Int) : Int := (((a % 18446744073709551616).toNat ||| (b % 18446744073709551616).toNat : Nat) : Int)
theorem iI_and (a b : Int) : iI a &&& iI b = iI (andI a b) := by
  apply Int32.toBitVec_inj.mp
  show BitVec.ofInt 32 a &&& BitVec.ofInt 32 b = BitVec.ofInt 32 (andI a b)
  unfold andI
  rw [BitVec.ofInt_natCast]
  apply BitVec.eq_of_toNat_eq
  rw [BitVec.toNat_and, BitVec.toNat_ofInt, BitVec.toNat_ofInt, BitVec.toNat_ofNat]
  exact (Nat.mod_eq_of_lt (Nat.and_lt_two_pow _ (by omega))).symm
theorem iI_or (a b : Int) : iI a ||| iI b = iI (orI a b) := by
  apply Int32.toBitVec_inj.mp
  show BitVec.ofInt 32 a ||| BitVec.ofInt 32 b = BitVec.ofInt 32 (orI a b)
  unfold orI
  rw [BitVec.ofInt_natCast]
  apply BitVec.eq_of_toNat_eq
  rw [BitVec.toNat_or, BitVec.toNat_ofInt, BitVec.toNat_ofInt, BitVec.toNat_ofNat]
  exact (Nat.mod_eq_of_lt (Nat.or_lt_two_pow (by omega) (by omega))).symm
theorem iI_xor (a b : Int) : iI a ^^^ iI b = iI (xorI a b) := by
  apply Int32.toBitVec_inj.mp
  show BitVec.ofInt 32 a ^^^ BitVec.ofInt 32 b = BitVec.ofInt 32 (xorI a b)
  unfold xorI
  rw [BitVec.ofInt_natCast]
  apply BitVec.eq_of_toNat_eq
  rw [BitVec.toNat_xor, BitVec.toNat_ofInt, BitVec.toNat_ofInt, BitVec.toNat_ofNat]
  exact (Nat.mod_eq_of_lt (Nat.xor_lt_two_pow (by omega) (by omega))).symm
theorem jI_xor (a b : Int) : jI a ^^^ jI b = jI (xorJ a b) := by
  apply Int64.toBitVec_inj.mp
  show BitVec.ofInt 64 a ^^^ BitVec.ofInt 64 b = BitVec.ofInt 64 (xorJ a b)
  unfold xorJ
  rw [BitVec.ofInt_natCast]
  apply BitVec.eq_of_toNat_eq
  rw [BitVec.toNat_xor, BitVec.toNat_ofInt, BitVec.toNat_ofInt, BitVec.toNat_ofNat]
  exact (Nat.mod_eq_of_lt (Nat.xor_lt_two_pow (by omega) (by omega))).symm
theorem jI_and (a b : Int) : jI a &&& jI b = jI (andJ a b) := by
  apply Int64.toBitVec_inj.mp
  show BitVec.ofInt 64 a &&& BitVec.ofInt 64 b = BitVec.ofInt 64 (andJ a b)
  unfold andJ
  rw [BitVec.ofInt_natCast]
  apply BitVec.eq_of_toNat_eq
  rw [BitVec.toNat_and, BitVec.toNat_ofInt, BitVec.toNat_ofInt, BitVec.toNat_ofNat]
  exact (Nat.mod_eq_of_lt (Nat.and_lt_two_pow _ (by omega))).symm
theorem jI_or (a b : Int) : jI a ||| jI b = jI (orJ a b) := by
  apply Int64.toBitVec_inj.mp
  show BitVec.ofInt 64 a ||| BitVec.ofInt 64 b = BitVec.ofInt 64 (orJ a b)
  unfold orJ
  rw [BitVec.ofInt_natCast]
  apply BitVec.eq_of_toNat_eq
  rw [BitVec.toNat_or, BitVec.toNat_ofInt, BitVec.toNat_ofInt, BitVec.toNat_ofNat]
  exact (Nat.mod_eq_of_lt (Nat.or_lt_two_pow (by omega) (by omega))).symm
section XB
variable {p : Program} {l : Launch} {e : Env} {R : Room} {s : State} {m : MethodId} {args : Array Value} {below : List Frame} {meth : Method} {c : Code} {H : Heap} {locs : List Loc} {cells slots : Nat} {Q : State → Prop} {cc : ByteArray} {pc : Nat} {ls : Array Slot} {rest : List Value}
theorem xi_iand (hx : p.tables.exec = Jvm.exec) (hb : c.code = cc) {a b : Int} (d : decode cc pc = .ok (.iand, 1)) (k : W p l e R s m args below meth c H locs cells slots Q (F0 m (pc + 1) ls (.int (iI (andI a b)) :: rest))) : W p l e R s m args below meth c H locs cells slots Q (F0 m (pc) ls (.int (iI b) :: .int (iI a) :: rest)) := lv_iand hx hb d (by rw [iI_and]; exact k)
theorem xi_ior (hx : p.tables.exec = Jvm.exec) (hb : c.code = cc) {a b : Int} (d : decode cc pc = .ok (.ior, 1)) (k : W p l e R s m args below meth c H locs cells slots Q (F0 m (pc + 1) ls (.int (iI (orI a b)) :: rest))) : W p l e R s m args below meth c H locs cells slots Q (F0 m (pc) ls (.int (iI b) :: .int (iI a) :: rest)) := lv_ior hx hb d (by rw [iI_or]; exact k)
theorem xi_ixor (hx : p.tables.exec = Jvm.exec) (hb : c.code = cc) {a b : Int} (d : decode cc pc = .ok (.ixor, 1)) (k : W p l e R s m args below meth c H locs cells slots Q (F0 m (pc + 1) ls (.int (iI (xorI a b)) :: rest))) : W p l e R s m args below meth c H locs cells slots Q (F0 m (pc) ls (.int (iI b) :: .int (iI a) :: rest)) := lv_ixor hx hb d (by rw [iI_xor]; exact k)
theorem xi_land (hx : p.tables.exec = Jvm.exec) (hb : c.code = cc) {a b : Int} (d : decode cc pc = .ok (.land, 1)) (k : W p l e R s m args below meth c H locs cells slots Q (F0 m (pc + 1) ls (.long (jI (andJ a b)) :: rest))) : W p l e R s m args below meth c H locs cells slots Q (F0 m (pc) ls (.long (jI b) :: .long (jI a) :: rest)) := lv_land hx hb d (by rw [jI_and]; exact k)
theorem xi_lor (hx : p.tables.exec = Jvm.exec) (hb : c.code = cc) {a b : Int} (d : decode cc pc = .ok (.lor, 1)) (k : W p l e R s m args below meth c H locs cells slots Q (F0 m (pc + 1) ls (.long (jI (orJ a b)) :: rest))) : W p l e R s m args below meth c H locs cells slots Q (F0 m (pc) ls (.long (jI b) :: .long (jI a) :: rest)) := lv_lor hx hb d (by rw [jI_or]; exact k)
theorem xi_lxor (hx : p.tables.exec = Jvm.exec) (hb : c.code = cc) {a b : Int} (d : decode cc pc = .ok (.lxor, 1)) (k : W p l e R s m args below meth c H locs cells slots Q (F0 m (pc + 1) ls (.long (jI (xorJ a b)) :: rest))) : W p l e R s m args below meth c H locs cells slots Q (F0 m (pc) ls (.long (jI b) :: .long (jI a) :: rest)) := lv_lxor hx hb d (by rw [jI_xor]; exact k)
end XB
/-- a byte and the rest apart -/
theorem and_b (a b : Nat) : a &&& b = (a % 256 &&& b % 256) + 256 * (a / 256 &&& b / 256) := by
  have h1 : (a &&& b) % 2 ^ 8 = (a % 2 ^ 8) &&& (b % 2 ^ 8) := Nat.and_mod_two_pow
  have h2 : (a &&& b) / 2 ^ 8 = (a / 2 ^ 8) &&& (b / 2 ^ 8) := Nat.and_div_two_pow
  have h3 := Nat.mod_add_div (a &&& b) (2 ^ 8)
  rw [h1, h2] at h3
  exact h3.symm
/-- four bytes -/
def by4 (a b c d : Nat) : Nat := a + 256 * (b + 256 * (c + 256 * d))
theorem and_4 {a b c d x y z w : Nat} (ha : a < 256) (hb : b < 256) (hc : c < 256) (hx : x < 256) (hy : y < 256) (hz : z < 256) : by4 a b c d &&& by4 x y z w = by4 (a &&& x) (b &&& y) (c &&& z) (d &&& w) := by
  unfold by4
  rw [and_b, show (a + 256 * (b + 256 * (c + 256 * d))) % 256 = a by omega, show (a + 256 * (b + 256 * (c + 256 * d))) / 256 = b + 256 * (c + 256 * d) by omega, show (x + 256 * (y + 256 * (z + 256 * w))) % 256 = x by omega, show (x + 256 * (y + 256 * (z + 256 * w))) / 256 = y + 256 * (z + 256 * w) by omega]
  rw [and_b (b + 256 * (c + 256 * d)), show (b + 256 * (c + 256 * d)) % 256 = b by omega, show (b + 256 * (c + 256 * d)) / 256 = c + 256 * d by omega, show (y + 256 * (z + 256 * w)) % 256 = y by omega, show (y + 256 * (z + 256 * w)) / 256 = z + 256 * w by omega]
  rw [and_b (c + 256 * d), show (c + 256 * d) % 256 = c by omega, show (c + 256 * d) / 256 = d by omega, show (z + 256 * w) % 256 = z by omega, show (z + 256 * w) / 256 = w by omega]
def pg1 (b : Nat) : Nat := b - ((b / 2) &&& 85)
def pg2 (b : Nat) : Nat := (b &&& 51) + ((b / 4) &&& 51)
def pg3 (b : Nat) : Nat := (b + b / 16) % 16
def popB (b : Nat) : Nat := pg3 (pg2 (pg1 b))
theorem pb1 : ∀ b : Fin 256, ∀ c : Fin 2, (b.val / 2 + 128 * c.val) &&& 85 = (b.val / 2) &&& 85 := by decide +kernel
theorem pb1s : ∀ b : Fin 256, (b.val / 2) &&& 85 ≤ b.val ∧ pg1 b.val < 171 := by decide +kernel
theorem pb2 : ∀ b : Fin 171, ∀ c : Fin 4, (b.val / 4 + 64 * c.val) &&& 51 = (b.val / 4) &&& 51 := by decide +kernel
theorem pb2s : ∀ b : Fin 256, pg2 (pg1 b.val) < 69 ∧ pg2 (pg1 b.val) % 16 < 5 := by decide +kernel
theorem pb3 : ∀ b : Fin 69, ∀ c : Fin 5, (b.val + b.val / 16 + 16 * c.val) &&& 15 = pg3 b.val := by decide +kernel
theorem pb0 : ∀ b : Fin 256, popB b.val ≤ 8 := by decide +kernel
theorem pbz : ∀ b : Fin 256, popB b.val = 0 → b.val = 0 := by decide +kernel
theorem pb_1 : ∀ b : Fin 256, popB b.val = 1 → b.val = 1 ∨ b.val = 2 ∨ b.val = 4 ∨ b.val = 8 ∨ b.val = 16 ∨ b.val = 32 ∨ b.val = 64 ∨ b.val = 128 := by decide +kernel
def pop1 (n : Nat) : Nat := n - (n / 2 &&& 1431655765)
def pop2 (v : Nat) : Nat := (v &&& 858993459) + (v / 4 &&& 858993459)
def pop3 (v : Nat) : Nat := (v + v / 16) &&& 252645135
theorem pop1_4 {a b c d : Nat} (ha : a < 256) (hb : b < 256) (hc : c < 256) (hd : d < 256) : pop1 (by4 a b c d) = by4 (pg1 a) (pg1 b) (pg1 c) (pg1 d) := by
  have e1 : by4 a b c d / 2 = by4 (a / 2 + 128 * (b % 2)) (b / 2 + 128 * (c % 2)) (c / 2 + 128 * (d % 2)) (d / 2 + 128 * 0) := by unfold by4; omega
  have e2 : (1431655765 : Nat) = by4 85 85 85 85 := rfl
  have q1 := (pb1s ⟨a, ha⟩).1
  have q2 := (pb1s ⟨b, hb⟩).1
  have q3 := (pb1s ⟨c, hc⟩).1
  have q4 := (pb1s ⟨d, hd⟩).1
  unfold pop1
  rw [e1, e2, and_4 (by omega) (by omega) (by omega) (by omega) (by omega) (by omega), show (a / 2 + 128 * (b % 2)) &&& 85 = (a / 2) &&& 85 from pb1 ⟨a, ha⟩ ⟨b % 2, by omega⟩, show (b / 2 + 128 * (c % 2)) &&& 85 = (b / 2) &&& 85 from pb1 ⟨b, hb⟩ ⟨c % 2, by omega⟩, show (c / 2 + 128 * (d % 2)) &&& 85 = (c / 2) &&& 85 from pb1 ⟨c, hc⟩ ⟨d % 2, by omega⟩, show (d / 2 + 128 * 0) &&& 85 = (d / 2) &&& 85 from pb1 ⟨d, hd⟩ ⟨0, by omega⟩]
  unfold by4 pg1
  have q1 : a / 2 &&& 85 ≤ a := q1
  have q2 : b / 2 &&& 85 ≤ b := q2
  have q3 : c / 2 &&& 85 ≤ c := q3
  have q4 : d / 2 &&& 85 ≤ d := q4
  omega
theorem pop2_4 {a b c d : Nat} (ha : a < 171) (hb : b < 171) (hc : c < 171) (hd : d < 171) : pop2 (by4 a b c d) = by4 (pg2 a) (pg2 b) (pg2 c) (pg2 d) := by
  have e1 : by4 a b c d / 4 = by4 (a / 4 + 64 * (b % 4)) (b / 4 + 64 * (c % 4)) (c / 4 + 64 * (d % 4)) (d / 4 + 64 * 0) := by unfold by4; omega
  have e2 : (858993459 : Nat) = by4 51 51 51 51 := rfl
  unfold pop2
  rw [e1, e2, and_4 (by omega) (by omega) (by omega) (by omega) (by omega) (by omega), and_4 (by omega) (by omega) (by omega) (by omega) (by omega) (by omega), show (a / 4 + 64 * (b % 4)) &&& 51 = (a / 4) &&& 51 from pb2 ⟨a, ha⟩ ⟨b % 4, by omega⟩, show (b / 4 + 64 * (c % 4)) &&& 51 = (b / 4) &&& 51 from pb2 ⟨b, hb⟩ ⟨c % 4, by omega⟩, show (c / 4 + 64 * (d % 4)) &&& 51 = (c / 4) &&& 51 from pb2 ⟨c, hc⟩ ⟨d % 4, by omega⟩, show (d / 4 + 64 * 0) &&& 51 = (d / 4) &&& 51 from pb2 ⟨d, hd⟩ ⟨0, by omega⟩]
  unfold by4 pg2
  omega
theorem pop3_4 {a b c d : Nat} (ha : a < 69 ∧ a % 16 < 5) (hb : b < 69 ∧ b % 16 < 5) (hc : c < 69 ∧ c % 16 < 5) (hd : d < 69 ∧ d % 16 < 5) : pop3 (by4 a b c d) = by4 (pg3 a) (pg3 b) (pg3 c) (pg3 d) := by
  have e1 : by4 a b c d + by4 a b c d / 16 = by4 (a + a / 16 + 16 * (b % 16)) (b + b / 16 + 16 * (c % 16)) (c + c / 16 + 16 * (d % 16)) (d + d / 16 + 16 * 0) := by unfold by4; omega
  have e2 : (252645135 : Nat) = by4 15 15 15 15 := rfl
  unfold pop3
  rw [e1, e2, and_4 (by omega) (by omega) (by omega) (by omega) (by omega) (by omega), show (a + a / 16 + 16 * (b % 16)) &&& 15 = pg3 a from pb3 ⟨a, ha.1⟩ ⟨b % 16, hb.2⟩, show (b + b / 16 + 16 * (c % 16)) &&& 15 = pg3 b from pb3 ⟨b, hb.1⟩ ⟨c % 16, hc.2⟩, show (c + c / 16 + 16 * (d % 16)) &&& 15 = pg3 c from pb3 ⟨c, hc.1⟩ ⟨d % 16, hd.2⟩, show (d + d / 16 + 16 * 0) &&& 15 = pg3 d from pb3 ⟨d, hd.1⟩ ⟨0, by omega⟩]
def popN (n : Nat) : Nat := let v := pop3 (pop2 (pop1 n)); let w := v + v / 256; (w + w / 65536) % 64
theorem popN_4 {a b c d : Nat} (ha : a < 256) (hb : b < 256) (hc : c < 256) (hd : d < 256) : popN (by4 a b c d) = popB a + popB b + popB c + popB d := by
  unfold popN
  rw [pop1_4 ha hb hc hd, pop2_4 (pb1s ⟨a, ha⟩).2 (pb1s ⟨b, hb⟩).2 (pb1s ⟨c, hc⟩).2 (pb1s ⟨d, hd⟩).2]
  have f : ∀ {x : Nat}, x < 256 → pg2 (pg1 x) < 69 ∧ pg2 (pg1 x) % 16 < 5 := fun {x} hx => pb2s ⟨x, hx⟩
  rw [pop3_4 (f ha) (f hb) (f hc) (f hd)]
  have h1 := pb0 ⟨a, ha⟩
  have h2 := pb0 ⟨b, hb⟩
  have h3 := pb0 ⟨c, hc⟩
  have h4 := pb0 ⟨d, hd⟩
  show ((by4 (popB a) (popB b) (popB c) (popB d) + by4 (popB a) (popB b) (popB c) (popB d) / 256) + (by4 (popB a) (popB b) (popB c) (popB d) + by4 (popB a) (popB b) (popB c) (popB d) / 256) / 65536) % 64 = _
  have h1 : popB a ≤ 8 := h1
  have h2 : popB b ≤ 8 := h2
  have h3 : popB c ≤ 8 := h3
  have h4 : popB d ≤ 8 := h4
  generalize popB a = x at *
  generalize popB b = y at *
  generalize popB c = z at *
  generalize popB d = w at *
  have e1 : by4 x y z w / 256 = y + 256 * (z + 256 * w) := by unfold by4; omega
  rw [e1]
  have e2 : by4 x y z w + (y + 256 * (z + 256 * w)) = (x + y) + 256 * ((y + z) + 256 * ((z + w) + 256 * w)) := by unfold by4; omega
  rw [e2]
  have e3 : ((x + y) + 256 * ((y + z) + 256 * ((z + w) + 256 * w))) / 65536 = (z + w) + 256 * w := by omega
  rw [e3]
  omega
theorem by4_of (n : Nat) : n = by4 (n % 256) (n / 256 % 256) (n / 65536 % 256) (n / 16777216) := by unfold by4; omega
theorem popN_1 {n : Nat} (hn : n < 4294967296) (h : popN n = 1) : ∃ i : Nat, i < 32 ∧ n = 2 ^ i := by
  have e := by4_of n
  generalize hA : n % 256 = a at e
  generalize hB : n / 256 % 256 = b at e
  generalize hC : n / 65536 % 256 = c at e
  generalize hD : n / 16777216 = d at e
  have ha : a < 256 := by omega
  have hb : b < 256 := by omega
  have hc : c < 256 := by omega
  have hd : d < 256 := by omega
  rw [e, popN_4 ha hb hc hd] at h
  have z1 := pbz ⟨a, ha⟩
  have z2 := pbz ⟨b, hb⟩
  have z3 := pbz ⟨c, hc⟩
  have z4 := pbz ⟨d, hd⟩
  have o1 := pb_1 ⟨a, ha⟩
  have o2 := pb_1 ⟨b, hb⟩
  have o3 := pb_1 ⟨c, hc⟩
  have o4 := pb_1 ⟨d, hd⟩
  have key : ∀ {x : Nat} (k : Nat), k ≤ 24 → (x = 1 ∨ x = 2 ∨ x = 4 ∨ x = 8 ∨ x = 16 ∨ x = 32 ∨ x = 64 ∨ x = 128) → ∃ i : Nat, i < 32 ∧ x * 2 ^ k = 2 ^ i := by
    intro x k hk hx
    rcases hx with q | q | q | q | q | q | q | q
    · exact ⟨0 + k, by omega, by rw [q, Nat.pow_add]⟩
    · exact ⟨1 + k, by omega, by rw [q, Nat.pow_add]⟩
    · exact ⟨2 + k, by omega, by rw [q, Nat.pow_add]⟩
    · exact ⟨3 + k, by omega, by rw [q, Nat.pow_add]⟩
    · exact ⟨4 + k, by omega, by rw [q, Nat.pow_add]⟩
    · exact ⟨5 + k, by omega, by rw [q, Nat.pow_add]⟩
    · exact ⟨6 + k, by omega, by rw [q, Nat.pow_add]⟩
    · exact ⟨7 + k, by omega, by rw [q, Nat.pow_add]⟩
  rcases (show popB a = 1 ∧ popB b = 0 ∧ popB c = 0 ∧ popB d = 0 ∨ popB a = 0 ∧ popB b = 1 ∧ popB c = 0 ∧ popB d = 0 ∨ popB a = 0 ∧ popB b = 0 ∧ popB c = 1 ∧ popB d = 0 ∨ popB a = 0 ∧ popB b = 0 ∧ popB c = 0 ∧ popB d = 1 by omega) with ⟨p1, p2, p3, p4⟩ | ⟨p1, p2, p3, p4⟩ | ⟨p1, p2, p3, p4⟩ | ⟨p1, p2, p3, p4⟩
  · obtain ⟨i, i1, i2⟩ := key 0 (by omega) (o1 p1)
    refine ⟨i, i1, ?_⟩
    have b0 : b = 0 := z2 p2
    have c0 : c = 0 := z3 p3
    have d0 : d = 0 := z4 p4
    rw [e]; refine Eq.trans ?_ i2; unfold by4; show _ = a * 1; omega
  · obtain ⟨i, i1, i2⟩ := key 8 (by omega) (o2 p2)
    refine ⟨i, i1, ?_⟩
    have b0 : a = 0 := z1 p1
    have c0 : c = 0 := z3 p3
    have d0 : d = 0 := z4 p4
    rw [e]; refine Eq.trans ?_ i2; unfold by4; show _ = b * 256; omega
  · obtain ⟨i, i1, i2⟩ := key 16 (by omega) (o3 p3)
    refine ⟨i, i1, ?_⟩
    have b0 : b = 0 := z2 p2
    have c0 : a = 0 := z1 p1
    have d0 : d = 0 := z4 p4
    rw [e]; refine Eq.trans ?_ i2; unfold by4; show _ = c * 65536; omega
  · obtain ⟨i, i1, i2⟩ := key 24 (by omega) (o4 p4)
    refine ⟨i, i1, ?_⟩
    have b0 : b = 0 := z2 p2
    have c0 : c = 0 := z3 p3
    have d0 : a = 0 := z1 p1
    rw [e]; refine Eq.trans ?_ i2; unfold by4; show _ = d * 16777216; omega

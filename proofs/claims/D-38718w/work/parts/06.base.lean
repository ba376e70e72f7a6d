set_option maxRecDepth 100000
/-! ===== numbers ===== -/
def iI (z : Int) : Int32 := Int32.ofInt z
def jI (z : Int) : Int64 := Int64.ofInt z
def b2i (P : Prop) [Decidable P] : Int := if P then 1 else 0
def cmpZ (a b : Int) : Int := if b < a then 1 else if a = b then 0 else -1
theorem b2i_1 {P : Prop} [Decidable P] (h : P) : b2i P = 1 := if_pos h
theorem b2i_0 {P : Prop} [Decidable P] (h : ¬ P) : b2i P = 0 := if_neg h
theorem b2i_c {P Q : Prop} [Decidable P] [Decidable Q] (h : P ↔ Q) : b2i P = b2i Q := by
  by_cases hP : P
  · rw [b2i_1 hP, b2i_1 (h.mp hP)]
  · rw [b2i_0 hP, b2i_0 (fun q => hP (h.mpr q))]
theorem b2i_r {P : Prop} [Decidable P] : 0 ≤ b2i P ∧ b2i P ≤ 1 := by
  by_cases hP : P
  · rw [b2i_1 hP]; omega
  · rw [b2i_0 hP]; omega
theorem iI_t {z : Int} (h : -2147483648 ≤ z ∧ z < 2147483648) : (iI z).toInt = z := Int32.toInt_ofInt_of_le (by omega) (by omega)
theorem jI_t {z : Int} (h : -9223372036854775808 ≤ z ∧ z < 9223372036854775808) : (jI z).toInt = z := Int64.toInt_ofInt_of_le (by omega) (by omega)
theorem iI_of (x : Int32) : iI x.toInt = x := Int32.ofInt_toInt x
theorem jI_of (x : Int64) : jI x.toInt = x := Int64.ofInt_toInt x
theorem iI_ex (x : Int32) : ∃ z : Int, x = iI z ∧ (-2147483648 ≤ z ∧ z < 2147483648) := ⟨x.toInt, (iI_of x).symm, by
  have h1 := x.le_toInt
  have h2 := x.toInt_lt
  omega⟩
theorem jI_ex (x : Int64) : ∃ z : Int, x = jI z ∧ (-9223372036854775808 ≤ z ∧ z < 9223372036854775808) := ⟨x.toInt, (jI_of x).symm, by
  have h1 := x.le_toInt
  have h2 := x.toInt_lt
  omega⟩
theorem iI_c {x : Int32} {z : Int} (h : x.toInt = z) : x = iI z := by rw [← h, iI_of]
theorem jI_c {x : Int64} {z : Int} (h : x.toInt = z) : x = jI z := by rw [← h, jI_of]
theorem iI_add (a b : Int) : iI a + iI b = iI (a + b) := (Int32.ofInt_add a b).symm
theorem iI_sub (a b : Int) : iI a - iI b = iI (a - b) := (Int32.ofInt_sub a b).symm
theorem iI_mul (a b : Int) : iI a * iI b = iI (a * b) := (Int32.ofInt_mul a b).symm
theorem iI_neg (a : Int) : - iI a = iI (-a) := (Int32.ofInt_neg a).symm
theorem jI_add (a b : Int) : jI a + jI b = jI (a + b) := (Int64.ofInt_add a b).symm
theorem jI_sub (a b : Int) : jI a - jI b = jI (a - b) := (Int64.ofInt_sub a b).symm
theorem jI_mul (a b : Int) : jI a * jI b = jI (a * b) := (Int64.ofInt_mul a b).symm
theorem jI_neg (a : Int) : - jI a = jI (-a) := (Int64.ofInt_neg a).symm
theorem iI_lt {a b : Int} (ha : -2147483648 ≤ a ∧ a < 2147483648) (hb : -2147483648 ≤ b ∧ b < 2147483648) : iI a < iI b ↔ a < b := by rw [Int32.lt_iff_toInt_lt, iI_t ha, iI_t hb]
theorem iI_le {a b : Int} (ha : -2147483648 ≤ a ∧ a < 2147483648) (hb : -2147483648 ≤ b ∧ b < 2147483648) : iI a ≤ iI b ↔ a ≤ b := by rw [Int32.le_iff_toInt_le, iI_t ha, iI_t hb]
theorem iI_eq {a b : Int} (ha : -2147483648 ≤ a ∧ a < 2147483648) (hb : -2147483648 ≤ b ∧ b < 2147483648) : iI a = iI b ↔ a = b := by rw [← Int32.toInt_inj, iI_t ha, iI_t hb]
theorem jI_lt {a b : Int} (ha : -9223372036854775808 ≤ a ∧ a < 9223372036854775808) (hb : -9223372036854775808 ≤ b ∧ b < 9223372036854775808) : jI a < jI b ↔ a < b := by rw [Int64.lt_iff_toInt_lt, jI_t ha, jI_t hb]
theorem jI_le {a b : Int} (ha : -9223372036854775808 ≤ a ∧ a < 9223372036854775808) (hb : -9223372036854775808 ≤ b ∧ b < 9223372036854775808) : jI a ≤ jI b ↔ a ≤ b := by rw [Int64.le_iff_toInt_le, jI_t ha, jI_t hb]
theorem jI_eq {a b : Int} (ha : -9223372036854775808 ≤ a ∧ a < 9223372036854775808) (hb : -9223372036854775808 ≤ b ∧ b < 9223372036854775808) : jI a = jI b ↔ a = b := by rw [← Int64.toInt_inj, jI_t ha, jI_t hb]
theorem iI_0 : iI 0 = 0 := by decide +kernel
theorem jI_0 : jI 0 = 0 := by decide +kernel
theorem iI_jI {a : Int} (ha : -2147483648 ≤ a ∧ a < 2147483648) : (iI a).toInt64 = jI a := by
  refine jI_c ?_
  rw [Int32.toInt_toInt64, iI_t ha]
theorem jI_iI (a : Int) : (jI a).toInt32 = iI a := Int64.toInt32_ofInt
theorem iI_div {a b : Int} (ha : -2147483648 ≤ a ∧ a < 2147483648) (hb : -2147483648 ≤ b ∧ b < 2147483648) (hm : -2147483648 < a ∨ b ≠ -1) : iI a / iI b = iI (a.tdiv b) := by
  refine iI_c ?_
  rw [Jvm.Kit.i32_div (by rw [iI_t ha, iI_t hb]; omega), iI_t ha, iI_t hb]
theorem jI_div {a b : Int} (ha : -9223372036854775808 ≤ a ∧ a < 9223372036854775808) (hb : -9223372036854775808 ≤ b ∧ b < 9223372036854775808) (hm : -9223372036854775808 < a ∨ b ≠ -1) : jI a / jI b = jI (a.tdiv b) := by
  refine jI_c ?_
  rw [Jvm.Kit.i64_div (by rw [jI_t ha, jI_t hb]; omega), jI_t ha, jI_t hb]
theorem iI_divp {a b : Int} (ha : 0 ≤ a ∧ a < 2147483648) (hb : 0 < b ∧ b < 2147483648) : iI a / iI b = iI (a / b) := by
  rw [iI_div (by omega) (by omega) (by omega), Int.tdiv_eq_ediv_of_nonneg ha.1]
theorem iI_cl {z : Int} (h : 0 ≤ z ∧ z < 2147483648) : (iI z).toNatClampNeg = z.toNat := by
  show (iI z).toInt.toNat = _
  rw [iI_t (by omega)]
theorem iI_nat {n : Nat} (h : n < 2147483648) : Int32.ofNat n = iI (n : Int) := by
  show _ = Int32.ofInt _
  rw [Int32.ofInt_eq_ofNat]
theorem iI_in {z : Int} {n : Nat} (h : 0 ≤ z ∧ z < 2147483648) (hn : z < (n : Int)) : vp_in (iI z) n := by
  rw [vp_in_iff, iI_t (by omega)]
  omega
theorem lg_cmpZ {a b : Int} (ha : -9223372036854775808 ≤ a ∧ a < 9223372036854775808) (hb : -9223372036854775808 ≤ b ∧ b < 9223372036854775808) : lg_cmp (jI a) (jI b) = iI (cmpZ a b) := by
  unfold lg_cmp cmpZ
  have e1 : (jI a > jI b) ↔ b < a := jI_lt hb ha
  have e2 : (jI a = jI b) ↔ a = b := jI_eq ha hb
  by_cases h1 : b < a
  · rw [if_pos (e1.mpr h1), if_pos h1]; decide +kernel
  · rw [if_neg (fun q => h1 (e1.mp q)), if_neg h1]
    by_cases h2 : a = b
    · rw [if_pos (e2.mpr h2), if_pos h2]; decide +kernel
    · rw [if_neg (fun q => h2 (e2.mp q)), if_neg h2]; decide +kernel
theorem cmpZ_r (a b : Int) : -1 ≤ cmpZ a b ∧ cmpZ a b ≤ 1 := by
  unfold cmpZ
  split
  · omega
  · split <;> omega
theorem cmpZ_lt (a b : Int) : cmpZ a b < 0 ↔ a < b := by
  unfold cmpZ
  split
  · omega
  · split <;> omega
theorem cmpZ_gt (a b : Int) : 0 < cmpZ a b ↔ b < a := by
  unfold cmpZ
  split
  · omega
  · split <;> omega
theorem cmpZ_eq (a b : Int) : cmpZ a b = 0 ↔ a = b := by
  unfold cmpZ
  split
  · omega
  · split <;> omega
theorem xi_bip {n : Int} (h : -128 ≤ n ∧ n < 128) : (Int8.ofInt n).toInt32 = iI n := by
  refine iI_c ?_
  rw [Int8.toInt_toInt32, Int8.toInt_ofInt_of_le (by omega) (by omega)]
theorem xi_sip {n : Int} (h : -32768 ≤ n ∧ n < 32768) : (Int16.ofInt n).toInt32 = iI n := by
  refine iI_c ?_
  rw [Int16.toInt_toInt32, Int16.toInt_ofInt_of_le (by omega) (by omega)]
theorem nar_b2i {P : Prop} [Decidable P] : narrow .boolean (.int (iI (b2i P))) = .int (iI (b2i P)) := by
  by_cases hP : P
  · rw [b2i_1 hP]; rfl
  · rw [b2i_0 hP]; rfl
theorem nar_int (x : Int32) : narrow .int (.int x) = .int x := rfl

section XR
variable {p : Program} {l : Launch} {e : Env} {R : Room} {s : State} {m : MethodId} {args : Array Value} {below : List Frame} {meth : Method} {c : Code} {H : Heap} {locs : List Loc} {cells slots : Nat} {Q : State → Prop}
variable {cc : ByteArray} {pc : Nat} {ls : Array Slot} {rest : List Value}
/-! ===== rows over iI and jI ===== -/
theorem xi_iconst (hx : p.tables.exec = Jvm.exec) (hb : c.code = cc) {n : Int} (d : decode cc pc = .ok (.iconst n, 1)) (k : W p l e R s m args below meth c H locs cells slots Q (F0 m (pc + 1) ls (.int (iI n) :: rest))) : W p l e R s m args below meth c H locs cells slots Q (F0 m (pc) ls (rest)) := lv_iconst hx hb d rfl k
theorem xi_bipush (hx : p.tables.exec = Jvm.exec) (hb : c.code = cc) {n : Int} (hn : -128 ≤ n ∧ n < 128) (d : decode cc pc = .ok (.bipush n, 2)) (k : W p l e R s m args below meth c H locs cells slots Q (F0 m (pc + 2) ls (.int (iI n) :: rest))) : W p l e R s m args below meth c H locs cells slots Q (F0 m (pc) ls (rest)) := lv_bipush hx hb d (xi_bip hn) k
theorem xi_sipush (hx : p.tables.exec = Jvm.exec) (hb : c.code = cc) {n : Int} (hn : -32768 ≤ n ∧ n < 32768) (d : decode cc pc = .ok (.sipush n, 3)) (k : W p l e R s m args below meth c H locs cells slots Q (F0 m (pc + 3) ls (.int (iI n) :: rest))) : W p l e R s m args below meth c H locs cells slots Q (F0 m (pc) ls (rest)) := lv_sipush hx hb d (xi_sip hn) k
theorem xi_lconst (hx : p.tables.exec = Jvm.exec) (hb : c.code = cc) {n : Fin 2} {z : Int} (hz : Int64.ofNat (n : Nat) = jI z) (d : decode cc pc = .ok (.lconst n, 1)) (k : W p l e R s m args below meth c H locs cells slots Q (F0 m (pc + 1) ls (.long (jI z) :: rest))) : W p l e R s m args below meth c H locs cells slots Q (F0 m (pc) ls (rest)) := lv_lconst hx hb d hz k
theorem xi_ldc (hx : p.tables.exec = Jvm.exec) (hb : c.code = cc) {own : String} {index : Nat} {v : Int32} {z : Int} (hown : s.vm.findClass own = some m.cls) (hts : ∀ w ∈ lw_all, w.before args s = true) (q : Jvm.Cond.constant own index v ∈ lw_all) (hz : v = iI z) (d : decode cc pc = .ok (.ldc index, 2)) (k : W p l e R s m args below meth c H locs cells slots Q (F0 m (pc + 2) ls (.int (iI z) :: rest))) : W p l e R s m args below meth c H locs cells slots Q (F0 m (pc) ls (rest)) := lv_ldc hx hb hown (hts _ q) d (hz ▸ k)
theorem xi_ldc_w (hx : p.tables.exec = Jvm.exec) (hb : c.code = cc) {own : String} {index : Nat} {v : Int32} {z : Int} (hown : s.vm.findClass own = some m.cls) (hts : ∀ w ∈ lw_all, w.before args s = true) (q : Jvm.Cond.constant own index v ∈ lw_all) (hz : v = iI z) (d : decode cc pc = .ok (.ldc_w index, 3)) (k : W p l e R s m args below meth c H locs cells slots Q (F0 m (pc + 3) ls (.int (iI z) :: rest))) : W p l e R s m args below meth c H locs cells slots Q (F0 m (pc) ls (rest)) := lv_ldcw hx hb hown (hts _ q) d (hz ▸ k)
theorem xi_ldc2 (hx : p.tables.exec = Jvm.exec) (hb : c.code = cc) {own : String} {index : Nat} {v : Int64} {z : Int} (hown : s.vm.findClass own = some m.cls) (hts : ∀ w ∈ lw_all, w.before args s = true) (q : Jvm.Cond.constantLong own index v ∈ lw_all) (hz : v = jI z) (d : decode cc pc = .ok (.ldc2_w index, 3)) (k : W p l e R s m args below meth c H locs cells slots Q (F0 m (pc + 3) ls (.long (jI z) :: rest))) : W p l e R s m args below meth c H locs cells slots Q (F0 m (pc) ls (rest)) := lv_ldc2 hx hb hown (hts _ q) d (hz ▸ k)
theorem xi_ldc2d (hx : p.tables.exec = Jvm.exec) (hb : c.code = cc) {own : String} {index : Nat} {v : UInt64} (hown : s.vm.findClass own = some m.cls) (hts : ∀ w ∈ lw_all, w.before args s = true) (q : Jvm.Cond.constantDouble own index v ∈ lw_all) (d : decode cc pc = .ok (.ldc2_w index, 3)) (k : W p l e R s m args below meth c H locs cells slots Q (F0 m (pc + 3) ls (.double v :: rest))) : W p l e R s m args below meth c H locs cells slots Q (F0 m (pc) ls (rest)) := lv_ldc2d hx hb hown (hts _ q) d k
theorem xi_iadd (hx : p.tables.exec = Jvm.exec) (hb : c.code = cc) {a b : Int} (d : decode cc pc = .ok (.iadd, 1)) (k : W p l e R s m args below meth c H locs cells slots Q (F0 m (pc + 1) ls (.int (iI (a + b)) :: rest))) : W p l e R s m args below meth c H locs cells slots Q (F0 m (pc) ls (.int (iI b) :: .int (iI a) :: rest)) := lv_iadd hx hb d (by rw [iI_add]; exact k)
theorem xi_ladd (hx : p.tables.exec = Jvm.exec) (hb : c.code = cc) {a b : Int} (d : decode cc pc = .ok (.ladd, 1)) (k : W p l e R s m args below meth c H locs cells slots Q (F0 m (pc + 1) ls (.long (jI (a + b)) :: rest))) : W p l e R s m args below meth c H locs cells slots Q (F0 m (pc) ls (.long (jI b) :: .long (jI a) :: rest)) := lv_ladd hx hb d (by rw [jI_add]; exact k)
theorem xi_isub (hx : p.tables.exec = Jvm.exec) (hb : c.code = cc) {a b : Int} (d : decode cc pc = .ok (.isub, 1)) (k : W p l e R s m args below meth c H locs cells slots Q (F0 m (pc + 1) ls (.int (iI (a - b)) :: rest))) : W p l e R s m args below meth c H locs cells slots Q (F0 m (pc) ls (.int (iI b) :: .int (iI a) :: rest)) := lv_isub hx hb d (by rw [iI_sub]; exact k)
theorem xi_lsub (hx : p.tables.exec = Jvm.exec) (hb : c.code = cc) {a b : Int} (d : decode cc pc = .ok (.lsub, 1)) (k : W p l e R s m args below meth c H locs cells slots Q (F0 m (pc + 1) ls (.long (jI (a - b)) :: rest))) : W p l e R s m args below meth c H locs cells slots Q (F0 m (pc) ls (.long (jI b) :: .long (jI a) :: rest)) := lv_lsub hx hb d (by rw [jI_sub]; exact k)
theorem xi_imul (hx : p.tables.exec = Jvm.exec) (hb : c.code = cc) {a b : Int} (d : decode cc pc = .ok (.imul, 1)) (k : W p l e R s m args below meth c H locs cells slots Q (F0 m (pc + 1) ls (.int (iI (a * b)) :: rest))) : W p l e R s m args below meth c H locs cells slots Q (F0 m (pc) ls (.int (iI b) :: .int (iI a) :: rest)) := lv_imul hx hb d (by rw [iI_mul]; exact k)
theorem xi_lmul (hx : p.tables.exec = Jvm.exec) (hb : c.code = cc) {a b : Int} (d : decode cc pc = .ok (.lmul, 1)) (k : W p l e R s m args below meth c H locs cells slots Q (F0 m (pc + 1) ls (.long (jI (a * b)) :: rest))) : W p l e R s m args below meth c H locs cells slots Q (F0 m (pc) ls (.long (jI b) :: .long (jI a) :: rest)) := lv_lmul hx hb d (by rw [jI_mul]; exact k)
theorem xi_ineg (hx : p.tables.exec = Jvm.exec) (hb : c.code = cc) {a : Int} (d : decode cc pc = .ok (.ineg, 1)) (k : W p l e R s m args below meth c H locs cells slots Q (F0 m (pc + 1) ls (.int (iI (-a)) :: rest))) : W p l e R s m args below meth c H locs cells slots Q (F0 m (pc) ls (.int (iI a) :: rest)) := lv_ineg hx hb d (by rw [iI_neg]; exact k)
theorem xi_lneg (hx : p.tables.exec = Jvm.exec) (hb : c.code = cc) {a : Int} (d : decode cc pc = .ok (.lneg, 1)) (k : W p l e R s m args below meth c H locs cells slots Q (F0 m (pc + 1) ls (.long (jI (-a)) :: rest))) : W p l e R s m args below meth c H locs cells slots Q (F0 m (pc) ls (.long (jI a) :: rest)) := lv_lneg hx hb d (by rw [jI_neg]; exact k)
theorem xi_idiv (hx : p.tables.exec = Jvm.exec) (hb : c.code = cc) {a b : Int} (ha : (-2147483648 ≤ a ∧ a < 2147483648)) (hb2 : (-2147483648 ≤ b ∧ b < 2147483648)) (h0 : b ≠ 0) (hm : -2147483648 < a ∨ b ≠ -1) (d : decode cc pc = .ok (.idiv, 1)) (k : W p l e R s m args below meth c H locs cells slots Q (F0 m (pc + 1) ls (.int (iI (a.tdiv b)) :: rest))) : W p l e R s m args below meth c H locs cells slots Q (F0 m (pc) ls (.int (iI b) :: .int (iI a) :: rest)) := lv_idiv hx hb d (fun h => h0 ((iI_eq hb2 (by omega)).mp (h.trans iI_0.symm))) (by rw [iI_div ha hb2 hm]; exact k)
theorem xi_ldiv (hx : p.tables.exec = Jvm.exec) (hb : c.code = cc) {a b : Int} (ha : (-9223372036854775808 ≤ a ∧ a < 9223372036854775808)) (hb2 : (-9223372036854775808 ≤ b ∧ b < 9223372036854775808)) (h0 : b ≠ 0) (hm : -9223372036854775808 < a ∨ b ≠ -1) (d : decode cc pc = .ok (.ldiv, 1)) (k : W p l e R s m args below meth c H locs cells slots Q (F0 m (pc + 1) ls (.long (jI (a.tdiv b)) :: rest))) : W p l e R s m args below meth c H locs cells slots Q (F0 m (pc) ls (.long (jI b) :: .long (jI a) :: rest)) := lv_ldiv hx hb d (fun h => h0 ((jI_eq hb2 (by omega)).mp (h.trans jI_0.symm))) (by rw [jI_div ha hb2 hm]; exact k)
theorem xi_irem (hx : p.tables.exec = Jvm.exec) (hb : c.code = cc) {a b : Int} (ha : (-2147483648 ≤ a ∧ a < 2147483648)) (hb2 : (-2147483648 ≤ b ∧ b < 2147483648)) (h0 : b ≠ 0) (hm : -2147483648 < a ∨ b ≠ -1) (d : decode cc pc = .ok (.irem, 1)) (k : W p l e R s m args below meth c H locs cells slots Q (F0 m (pc + 1) ls (.int (iI (a.tmod b)) :: rest))) : W p l e R s m args below meth c H locs cells slots Q (F0 m (pc) ls (.int (iI b) :: .int (iI a) :: rest)) := lv_irem hx hb d (fun h => h0 ((iI_eq hb2 (by omega)).mp (h.trans iI_0.symm))) (by rw [iI_div ha hb2 hm, iI_mul, iI_sub, Int.mul_comm, ← Int.tmod_def]; exact k)
theorem xi_lrem (hx : p.tables.exec = Jvm.exec) (hb : c.code = cc) {a b : Int} (ha : (-9223372036854775808 ≤ a ∧ a < 9223372036854775808)) (hb2 : (-9223372036854775808 ≤ b ∧ b < 9223372036854775808)) (h0 : b ≠ 0) (hm : -9223372036854775808 < a ∨ b ≠ -1) (d : decode cc pc = .ok (.lrem, 1)) (k : W p l e R s m args below meth c H locs cells slots Q (F0 m (pc + 1) ls (.long (jI (a.tmod b)) :: rest))) : W p l e R s m args below meth c H locs cells slots Q (F0 m (pc) ls (.long (jI b) :: .long (jI a) :: rest)) := lv_lrem hx hb d (fun h => h0 ((jI_eq hb2 (by omega)).mp (h.trans jI_0.symm))) (by rw [jI_div ha hb2 hm, jI_mul, jI_sub, Int.mul_comm, ← Int.tmod_def]; exact k)
theorem xi_i2l (hx : p.tables.exec = Jvm.exec) (hb : c.code = cc) {a : Int} (ha : (-2147483648 ≤ a ∧ a < 2147483648)) (d : decode cc pc = .ok (.i2l, 1)) (k : W p l e R s m args below meth c H locs cells slots Q (F0 m (pc + 1) ls (.long (jI a) :: rest))) : W p l e R s m args below meth c H locs cells slots Q (F0 m (pc) ls (.int (iI a) :: rest)) := lv_i2l hx hb d (iI_jI ha) k
theorem xi_l2i (hx : p.tables.exec = Jvm.exec) (hb : c.code = cc) {a : Int} (d : decode cc pc = .ok (.l2i, 1)) (k : W p l e R s m args below meth c H locs cells slots Q (F0 m (pc + 1) ls (.int (iI a) :: rest))) : W p l e R s m args below meth c H locs cells slots Q (F0 m (pc) ls (.long (jI a) :: rest)) := lv_l2i hx hb d (jI_iI a) k
theorem xi_lcmp (hx : p.tables.exec = Jvm.exec) (hb : c.code = cc) {a b : Int} (ha : (-9223372036854775808 ≤ a ∧ a < 9223372036854775808)) (hb2 : (-9223372036854775808 ≤ b ∧ b < 9223372036854775808)) (d : decode cc pc = .ok (.lcmp, 1)) (k : W p l e R s m args below meth c H locs cells slots Q (F0 m (pc + 1) ls (.int (iI (cmpZ a b)) :: rest))) : W p l e R s m args below meth c H locs cells slots Q (F0 m (pc) ls (.long (jI b) :: .long (jI a) :: rest)) := W.lcmp hx hb d (by rw [lg_cmpZ ha hb2]; exact k)
theorem xi_icmp_eq (hx : p.tables.exec = Jvm.exec) (hb : c.code = cc) {a b : Int} {off : Int} {tgt : Nat} (d : decode cc pc = .ok (.if_icmp .eq off, 3)) (ht : (pc : Int) + off = (tgt : Int)) (ha : (-2147483648 ≤ a ∧ a < 2147483648)) (hb2 : (-2147483648 ≤ b ∧ b < 2147483648)) (kt : a = b → W p l e R s m args below meth c H locs cells slots Q (F0 m (tgt) ls (rest))) (kf : a ≠ b → W p l e R s m args below meth c H locs cells slots Q (F0 m (pc + 3) ls (rest))) : W p l e R s m args below meth c H locs cells slots Q (F0 m (pc) ls (.int (iI b) :: .int (iI a) :: rest)) := lv_icmp_eq hx hb d ht (fun h => kt ((iI_eq ha hb2).mp h)) (fun h => kf (fun q => h ((iI_eq ha hb2).mpr q)))
theorem xi_if_eq (hx : p.tables.exec = Jvm.exec) (hb : c.code = cc) {a : Int} {off : Int} {tgt : Nat} (d : decode cc pc = .ok (.ifCond .eq off, 3)) (ht : (pc : Int) + off = (tgt : Int)) (ha : (-2147483648 ≤ a ∧ a < 2147483648)) (kt : a = 0 → W p l e R s m args below meth c H locs cells slots Q (F0 m (tgt) ls (rest))) (kf : a ≠ 0 → W p l e R s m args below meth c H locs cells slots Q (F0 m (pc + 3) ls (rest))) : W p l e R s m args below meth c H locs cells slots Q (F0 m (pc) ls (.int (iI a) :: rest)) := by
  have hb2 : -2147483648 ≤ (0 : Int) ∧ (0 : Int) < 2147483648 := by decide
  have e0 : (0 : Int32) = iI 0 := iI_0.symm
  exact lv_if_eq hx hb d ht (by rw [e0]; exact (fun h => kt ((iI_eq ha hb2).mp h))) (by rw [e0]; exact (fun h => kf (fun q => h ((iI_eq ha hb2).mpr q))))
theorem xi_ifz_eq (hx : p.tables.exec = Jvm.exec) (hb : c.code = cc) {a b : Int} {off : Int} {tgt : Nat} (d : decode cc pc = .ok (.ifCond .eq off, 3)) (ht : (pc : Int) + off = (tgt : Int)) (kt : a = b → W p l e R s m args below meth c H locs cells slots Q (F0 m (tgt) ls (rest))) (kf : a ≠ b → W p l e R s m args below meth c H locs cells slots Q (F0 m (pc + 3) ls (rest))) : W p l e R s m args below meth c H locs cells slots Q (F0 m (pc) ls (.int (iI (cmpZ a b)) :: rest)) :=
  xi_if_eq hx hb d ht (by have := cmpZ_r a b; omega) (fun h => kt ((cmpZ_eq a b).mp h)) (fun h => kf (fun q => h ((cmpZ_eq a b).mpr q)))
theorem xi_icmp_ne (hx : p.tables.exec = Jvm.exec) (hb : c.code = cc) {a b : Int} {off : Int} {tgt : Nat} (d : decode cc pc = .ok (.if_icmp .ne off, 3)) (ht : (pc : Int) + off = (tgt : Int)) (ha : (-2147483648 ≤ a ∧ a < 2147483648)) (hb2 : (-2147483648 ≤ b ∧ b < 2147483648)) (kt : a ≠ b → W p l e R s m args below meth c H locs cells slots Q (F0 m (tgt) ls (rest))) (kf : a = b → W p l e R s m args below meth c H locs cells slots Q (F0 m (pc + 3) ls (rest))) : W p l e R s m args below meth c H locs cells slots Q (F0 m (pc) ls (.int (iI b) :: .int (iI a) :: rest)) := lv_icmp_ne hx hb d ht (fun h => kt (fun q => h ((iI_eq ha hb2).mpr q))) (fun h => kf ((iI_eq ha hb2).mp h))
theorem xi_if_ne (hx : p.tables.exec = Jvm.exec) (hb : c.code = cc) {a : Int} {off : Int} {tgt : Nat} (d : decode cc pc = .ok (.ifCond .ne off, 3)) (ht : (pc : Int) + off = (tgt : Int)) (ha : (-2147483648 ≤ a ∧ a < 2147483648)) (kt : a ≠ 0 → W p l e R s m args below meth c H locs cells slots Q (F0 m (tgt) ls (rest))) (kf : a = 0 → W p l e R s m args below meth c H locs cells slots Q (F0 m (pc + 3) ls (rest))) : W p l e R s m args below meth c H locs cells slots Q (F0 m (pc) ls (.int (iI a) :: rest)) := by
  have hb2 : -2147483648 ≤ (0 : Int) ∧ (0 : Int) < 2147483648 := by decide
  have e0 : (0 : Int32) = iI 0 := iI_0.symm
  exact lv_if_ne hx hb d ht (by rw [e0]; exact (fun h => kt (fun q => h ((iI_eq ha hb2).mpr q)))) (by rw [e0]; exact (fun h => kf ((iI_eq ha hb2).mp h)))
theorem xi_ifz_ne (hx : p.tables.exec = Jvm.exec) (hb : c.code = cc) {a b : Int} {off : Int} {tgt : Nat} (d : decode cc pc = .ok (.ifCond .ne off, 3)) (ht : (pc : Int) + off = (tgt : Int)) (kt : a ≠ b → W p l e R s m args below meth c H locs cells slots Q (F0 m (tgt) ls (rest))) (kf : a = b → W p l e R s m args below meth c H locs cells slots Q (F0 m (pc + 3) ls (rest))) : W p l e R s m args below meth c H locs cells slots Q (F0 m (pc) ls (.int (iI (cmpZ a b)) :: rest)) :=
  xi_if_ne hx hb d ht (by have := cmpZ_r a b; omega) (fun h => kt (fun q => h ((cmpZ_eq a b).mpr q))) (fun h => kf ((cmpZ_eq a b).mp h))
theorem xi_icmp_lt (hx : p.tables.exec = Jvm.exec) (hb : c.code = cc) {a b : Int} {off : Int} {tgt : Nat} (d : decode cc pc = .ok (.if_icmp .lt off, 3)) (ht : (pc : Int) + off = (tgt : Int)) (ha : (-2147483648 ≤ a ∧ a < 2147483648)) (hb2 : (-2147483648 ≤ b ∧ b < 2147483648)) (kt : a < b → W p l e R s m args below meth c H locs cells slots Q (F0 m (tgt) ls (rest))) (kf : b ≤ a → W p l e R s m args below meth c H locs cells slots Q (F0 m (pc + 3) ls (rest))) : W p l e R s m args below meth c H locs cells slots Q (F0 m (pc) ls (.int (iI b) :: .int (iI a) :: rest)) := lv_icmp_lt hx hb d ht (fun h => kt ((iI_lt ha hb2).mp h)) (fun h => kf (Int.not_lt.mp (fun q => h ((iI_lt ha hb2).mpr q))))
theorem xi_if_lt (hx : p.tables.exec = Jvm.exec) (hb : c.code = cc) {a : Int} {off : Int} {tgt : Nat} (d : decode cc pc = .ok (.ifCond .lt off, 3)) (ht : (pc : Int) + off = (tgt : Int)) (ha : (-2147483648 ≤ a ∧ a < 2147483648)) (kt : a < 0 → W p l e R s m args below meth c H locs cells slots Q (F0 m (tgt) ls (rest))) (kf : 0 ≤ a → W p l e R s m args below meth c H locs cells slots Q (F0 m (pc + 3) ls (rest))) : W p l e R s m args below meth c H locs cells slots Q (F0 m (pc) ls (.int (iI a) :: rest)) := by
  have hb2 : -2147483648 ≤ (0 : Int) ∧ (0 : Int) < 2147483648 := by decide
  have e0 : (0 : Int32) = iI 0 := iI_0.symm
  exact lv_if_lt hx hb d ht (by rw [e0]; exact (fun h => kt ((iI_lt ha hb2).mp h))) (by rw [e0]; exact (fun h => kf (Int.not_lt.mp (fun q => h ((iI_lt ha hb2).mpr q)))))
theorem xi_ifz_lt (hx : p.tables.exec = Jvm.exec) (hb : c.code = cc) {a b : Int} {off : Int} {tgt : Nat} (d : decode cc pc = .ok (.ifCond .lt off, 3)) (ht : (pc : Int) + off = (tgt : Int)) (kt : a < b → W p l e R s m args below meth c H locs cells slots Q (F0 m (tgt) ls (rest))) (kf : b ≤ a → W p l e R s m args below meth c H locs cells slots Q (F0 m (pc + 3) ls (rest))) : W p l e R s m args below meth c H locs cells slots Q (F0 m (pc) ls (.int (iI (cmpZ a b)) :: rest)) :=
  xi_if_lt hx hb d ht (by have := cmpZ_r a b; omega) (fun h => kt ((cmpZ_lt a b).mp h)) (fun h => kf (by have := (cmpZ_lt a b); omega))
theorem xi_icmp_ge (hx : p.tables.exec = Jvm.exec) (hb : c.code = cc) {a b : Int} {off : Int} {tgt : Nat} (d : decode cc pc = .ok (.if_icmp .ge off, 3)) (ht : (pc : Int) + off = (tgt : Int)) (ha : (-2147483648 ≤ a ∧ a < 2147483648)) (hb2 : (-2147483648 ≤ b ∧ b < 2147483648)) (kt : b ≤ a → W p l e R s m args below meth c H locs cells slots Q (F0 m (tgt) ls (rest))) (kf : a < b → W p l e R s m args below meth c H locs cells slots Q (F0 m (pc + 3) ls (rest))) : W p l e R s m args below meth c H locs cells slots Q (F0 m (pc) ls (.int (iI b) :: .int (iI a) :: rest)) := lv_icmp_ge hx hb d ht (fun h => kt ((iI_le hb2 ha).mp h)) (fun h => kf (Int.not_le.mp (fun q => h ((iI_le hb2 ha).mpr q))))
theorem xi_if_ge (hx : p.tables.exec = Jvm.exec) (hb : c.code = cc) {a : Int} {off : Int} {tgt : Nat} (d : decode cc pc = .ok (.ifCond .ge off, 3)) (ht : (pc : Int) + off = (tgt : Int)) (ha : (-2147483648 ≤ a ∧ a < 2147483648)) (kt : 0 ≤ a → W p l e R s m args below meth c H locs cells slots Q (F0 m (tgt) ls (rest))) (kf : a < 0 → W p l e R s m args below meth c H locs cells slots Q (F0 m (pc + 3) ls (rest))) : W p l e R s m args below meth c H locs cells slots Q (F0 m (pc) ls (.int (iI a) :: rest)) := by
  have hb2 : -2147483648 ≤ (0 : Int) ∧ (0 : Int) < 2147483648 := by decide
  have e0 : (0 : Int32) = iI 0 := iI_0.symm
  exact lv_if_ge hx hb d ht (by rw [e0]; exact (fun h => kt ((iI_le hb2 ha).mp h))) (by rw [e0]; exact (fun h => kf (Int.not_le.mp (fun q => h ((iI_le hb2 ha).mpr q)))))
theorem xi_ifz_ge (hx : p.tables.exec = Jvm.exec) (hb : c.code = cc) {a b : Int} {off : Int} {tgt : Nat} (d : decode cc pc = .ok (.ifCond .ge off, 3)) (ht : (pc : Int) + off = (tgt : Int)) (kt : b ≤ a → W p l e R s m args below meth c H locs cells slots Q (F0 m (tgt) ls (rest))) (kf : a < b → W p l e R s m args below meth c H locs cells slots Q (F0 m (pc + 3) ls (rest))) : W p l e R s m args below meth c H locs cells slots Q (F0 m (pc) ls (.int (iI (cmpZ a b)) :: rest)) :=
  xi_if_ge hx hb d ht (by have := cmpZ_r a b; omega) (fun h => kt (by have := (cmpZ_lt a b); omega)) (fun h => kf (by have := (cmpZ_lt a b); omega))
theorem xi_icmp_gt (hx : p.tables.exec = Jvm.exec) (hb : c.code = cc) {a b : Int} {off : Int} {tgt : Nat} (d : decode cc pc = .ok (.if_icmp .gt off, 3)) (ht : (pc : Int) + off = (tgt : Int)) (ha : (-2147483648 ≤ a ∧ a < 2147483648)) (hb2 : (-2147483648 ≤ b ∧ b < 2147483648)) (kt : b < a → W p l e R s m args below meth c H locs cells slots Q (F0 m (tgt) ls (rest))) (kf : a ≤ b → W p l e R s m args below meth c H locs cells slots Q (F0 m (pc + 3) ls (rest))) : W p l e R s m args below meth c H locs cells slots Q (F0 m (pc) ls (.int (iI b) :: .int (iI a) :: rest)) := lv_icmp_gt hx hb d ht (fun h => kt ((iI_lt hb2 ha).mp h)) (fun h => kf (Int.not_lt.mp (fun q => h ((iI_lt hb2 ha).mpr q))))
theorem xi_if_gt (hx : p.tables.exec = Jvm.exec) (hb : c.code = cc) {a : Int} {off : Int} {tgt : Nat} (d : decode cc pc = .ok (.ifCond .gt off, 3)) (ht : (pc : Int) + off = (tgt : Int)) (ha : (-2147483648 ≤ a ∧ a < 2147483648)) (kt : 0 < a → W p l e R s m args below meth c H locs cells slots Q (F0 m (tgt) ls (rest))) (kf : a ≤ 0 → W p l e R s m args below meth c H locs cells slots Q (F0 m (pc + 3) ls (rest))) : W p l e R s m args below meth c H locs cells slots Q (F0 m (pc) ls (.int (iI a) :: rest)) := by
  have hb2 : -2147483648 ≤ (0 : Int) ∧ (0 : Int) < 2147483648 := by decide
  have e0 : (0 : Int32) = iI 0 := iI_0.symm
  exact lv_if_gt hx hb d ht (by rw [e0]; exact (fun h => kt ((iI_lt hb2 ha).mp h))) (by rw [e0]; exact (fun h => kf (Int.not_lt.mp (fun q => h ((iI_lt hb2 ha).mpr q)))))
theorem xi_ifz_gt (hx : p.tables.exec = Jvm.exec) (hb : c.code = cc) {a b : Int} {off : Int} {tgt : Nat} (d : decode cc pc = .ok (.ifCond .gt off, 3)) (ht : (pc : Int) + off = (tgt : Int)) (kt : b < a → W p l e R s m args below meth c H locs cells slots Q (F0 m (tgt) ls (rest))) (kf : a ≤ b → W p l e R s m args below meth c H locs cells slots Q (F0 m (pc + 3) ls (rest))) : W p l e R s m args below meth c H locs cells slots Q (F0 m (pc) ls (.int (iI (cmpZ a b)) :: rest)) :=
  xi_if_gt hx hb d ht (by have := cmpZ_r a b; omega) (fun h => kt ((cmpZ_gt a b).mp h)) (fun h => kf (by have := (cmpZ_gt a b); omega))
theorem xi_icmp_le (hx : p.tables.exec = Jvm.exec) (hb : c.code = cc) {a b : Int} {off : Int} {tgt : Nat} (d : decode cc pc = .ok (.if_icmp .le off, 3)) (ht : (pc : Int) + off = (tgt : Int)) (ha : (-2147483648 ≤ a ∧ a < 2147483648)) (hb2 : (-2147483648 ≤ b ∧ b < 2147483648)) (kt : a ≤ b → W p l e R s m args below meth c H locs cells slots Q (F0 m (tgt) ls (rest))) (kf : b < a → W p l e R s m args below meth c H locs cells slots Q (F0 m (pc + 3) ls (rest))) : W p l e R s m args below meth c H locs cells slots Q (F0 m (pc) ls (.int (iI b) :: .int (iI a) :: rest)) := lv_icmp_le hx hb d ht (fun h => kt ((iI_le ha hb2).mp h)) (fun h => kf (Int.not_le.mp (fun q => h ((iI_le ha hb2).mpr q))))
theorem xi_if_le (hx : p.tables.exec = Jvm.exec) (hb : c.code = cc) {a : Int} {off : Int} {tgt : Nat} (d : decode cc pc = .ok (.ifCond .le off, 3)) (ht : (pc : Int) + off = (tgt : Int)) (ha : (-2147483648 ≤ a ∧ a < 2147483648)) (kt : a ≤ 0 → W p l e R s m args below meth c H locs cells slots Q (F0 m (tgt) ls (rest))) (kf : 0 < a → W p l e R s m args below meth c H locs cells slots Q (F0 m (pc + 3) ls (rest))) : W p l e R s m args below meth c H locs cells slots Q (F0 m (pc) ls (.int (iI a) :: rest)) := by
  have hb2 : -2147483648 ≤ (0 : Int) ∧ (0 : Int) < 2147483648 := by decide
  have e0 : (0 : Int32) = iI 0 := iI_0.symm
  exact lv_if_le hx hb d ht (by rw [e0]; exact (fun h => kt ((iI_le ha hb2).mp h))) (by rw [e0]; exact (fun h => kf (Int.not_le.mp (fun q => h ((iI_le ha hb2).mpr q)))))
theorem xi_ifz_le (hx : p.tables.exec = Jvm.exec) (hb : c.code = cc) {a b : Int} {off : Int} {tgt : Nat} (d : decode cc pc = .ok (.ifCond .le off, 3)) (ht : (pc : Int) + off = (tgt : Int)) (kt : a ≤ b → W p l e R s m args below meth c H locs cells slots Q (F0 m (tgt) ls (rest))) (kf : b < a → W p l e R s m args below meth c H locs cells slots Q (F0 m (pc + 3) ls (rest))) : W p l e R s m args below meth c H locs cells slots Q (F0 m (pc) ls (.int (iI (cmpZ a b)) :: rest)) :=
  xi_if_le hx hb d ht (by have := cmpZ_r a b; omega) (fun h => kt (by have := (cmpZ_gt a b); omega)) (fun h => kf (by have := (cmpZ_gt a b); omega))
theorem xi_ifb_eq (hx : p.tables.exec = Jvm.exec) (hb : c.code = cc) {P : Prop} [Decidable P] {off : Int} {tgt : Nat} (d : decode cc pc = .ok (.ifCond .eq off, 3)) (ht : (pc : Int) + off = (tgt : Int)) (kt : ¬ P → W p l e R s m args below meth c H locs cells slots Q (F0 m (tgt) ls (rest))) (kf : P → W p l e R s m args below meth c H locs cells slots Q (F0 m (pc + 3) ls (rest))) : W p l e R s m args below meth c H locs cells slots Q (F0 m (pc) ls (.int (iI (b2i P)) :: rest)) :=
  xi_if_eq hx hb d ht (by have := b2i_r (P := P); omega) (fun h => kt (fun q => by rw [b2i_1 q] at h; cases h)) (fun h => kf (Classical.byContradiction (fun q => h (b2i_0 q))))
theorem xi_ifb_ne (hx : p.tables.exec = Jvm.exec) (hb : c.code = cc) {P : Prop} [Decidable P] {off : Int} {tgt : Nat} (d : decode cc pc = .ok (.ifCond .ne off, 3)) (ht : (pc : Int) + off = (tgt : Int)) (kt : P → W p l e R s m args below meth c H locs cells slots Q (F0 m (tgt) ls (rest))) (kf : ¬ P → W p l e R s m args below meth c H locs cells slots Q (F0 m (pc + 3) ls (rest))) : W p l e R s m args below meth c H locs cells slots Q (F0 m (pc) ls (.int (iI (b2i P)) :: rest)) :=
  xi_if_ne hx hb d ht (by have := b2i_r (P := P); omega) (fun h => kt (Classical.byContradiction (fun q => h (b2i_0 q)))) (fun h => kf (fun q => by rw [b2i_1 q] at h; cases h))
theorem xi_ne {x y : Int32} (h : x = y) (k : W p l e R s m args below meth c H locs cells slots Q (F0 m (pc) ls (.int y :: rest))) : W p l e R s m args below meth c H locs cells slots Q (F0 m (pc) ls (.int x :: rest)) := h ▸ k
theorem xi_ni {a b : Int} (h : a = b) (k : W p l e R s m args below meth c H locs cells slots Q (F0 m (pc) ls (.int (iI b) :: rest))) : W p l e R s m args below meth c H locs cells slots Q (F0 m (pc) ls (.int (iI a) :: rest)) := h ▸ k
theorem xi_nj {a b : Int} (h : a = b) (k : W p l e R s m args below meth c H locs cells slots Q (F0 m (pc) ls (.long (jI b) :: rest))) : W p l e R s m args below meth c H locs cells slots Q (F0 m (pc) ls (.long (jI a) :: rest)) := h ▸ k
theorem xi_name {a : Int} (k : ∀ z : Int, z = a → W p l e R s m args below meth c H locs cells slots Q (F0 m (pc) ls (.int (iI z) :: rest))) : W p l e R s m args below meth c H locs cells slots Q (F0 m (pc) ls (.int (iI a) :: rest)) := k a rfl
theorem xj_name {a : Int} (k : ∀ z : Int, z = a → W p l e R s m args below meth c H locs cells slots Q (F0 m (pc) ls (.long (jI z) :: rest))) : W p l e R s m args below meth c H locs cells slots Q (F0 m (pc) ls (.long (jI a) :: rest)) := k a rfl
theorem xi_iinc (hx : p.tables.exec = Jvm.exec) (hb : c.code = cc) {i nL k : Nat} {n a : Int} {lv lv' : List (Nat × Value)} (d : decode cc pc = .ok (.iinc i n, 3)) (h : lv_has ls nL lv) (hk : lv[k]? = some (i, .int (iI a))) (hn : i < nL) (hl : (i, Value.int (iI (a + n))) :: lv.filter (fun q => !(q.1 == i) && !(q.1 + 1 == i && q.2.category == 2)) = lv') (kk : ∀ ls' : Array Slot, lv_has ls' nL lv' → W p l e R s m args below meth c H locs cells slots Q (F0 m (pc + 3) ls' (rest))) : W p l e R s m args below meth c H locs cells slots Q (F0 m (pc) ls (rest)) := lv_iinc hx hb d h hk (iI_add a n) hn hl kk
end XR
theorem tmod0 {a b : Int} : Int.tmod a b = 0 ↔ a % b = 0 := ⟨fun h => Int.emod_eq_zero_of_dvd (Int.dvd_of_tmod_eq_zero h), fun h => Int.tmod_eq_zero_of_dvd (Int.dvd_of_emod_eq_zero h)⟩
theorem tdm (a b : Int) (hb : 0 < b) : a = b * a.tdiv b + a.tmod b ∧ (0 ≤ a → 0 ≤ a.tmod b ∧ a.tmod b < b ∧ 0 ≤ a.tdiv b) ∧ (a ≤ 0 → a.tmod b ≤ 0 ∧ -b < a.tmod b ∧ a.tdiv b ≤ 0) := by
  refine ⟨(Int.mul_tdiv_add_tmod a b).symm, fun h => ⟨Int.tmod_nonneg b h, Int.tmod_lt_of_pos a hb, Int.tdiv_nonneg h (by omega)⟩, fun h => ?_⟩
  obtain ⟨n, rfl⟩ : ∃ n : Int, a = -n := ⟨-a, by omega⟩
  have h1 := Int.tmod_nonneg b (a := n) (by omega)
  have h2 := Int.tmod_lt_of_pos n hb
  have h3 : 0 ≤ n.tdiv b := Int.tdiv_nonneg (by omega) (by omega)
  rw [Int.neg_tmod, Int.neg_tdiv]
  omega
theorem ifp {c : Prop} [Decidable c] {α : Type} {t e x : α} (h : c) (k : t = x) : (if c then t else e) = x := by rw [if_pos h]; exact k
theorem ifn {c : Prop} [Decidable c] {α : Type} {t e x : α} (h : ¬ c) (k : e = x) : (if c then t else e) = x := by rw [if_neg h]; exact k
/-! ===== the world: the state at the law's start (G.1), classes, array classes, the script's cell ===== -/
abbrev CL : List vw_C := [(RX2, TX2, 3), (RX1, TX1, 4), (RX3, TX3, 5), (RX4, TX4, 2), (RJ15, TJ15, 6), (RJ5, TJ5, 4), (RJ20, TJ20, 4)]
abbrev TY (T : Nat → ClassId) : List (ClassId × FieldType) := [(T 0, .int), (T 1, .byte), (T 2, .object "Cubequarry$Num"), (T 3, .array .int)]
abbrev GG : Type := State × va_G × (Nat → ClassId) × Addr
def St0 (G : GG) : Prop := (∀ w ∈ lw_tbl, w.before #[Value.ref G.2.2.2] G.1 = true) ∧ (Jvm.Cond.and given_1 narrow_1).before #[Value.ref G.2.2.2] G.1 = true ∧ va_K G.2.1 CL (TY G.2.2.1) G.1
def KH (G : GG) (s : State) (H : Heap) : Prop := St0 G ∧ G.1.WarmedH s.vm ∧ G.1.heap.size ≤ H.size ∧ ∀ q : Nat, q < G.1.heap.size → H[q]? = G.1.heap[q]?
theorem KH.use {G : GG} {s U : State} {H : Heap} (h : KH G s H) (hU : U.heap = H) (hW : s.WarmedH U.vm) : KH G U U.heap := by
  subst hU
  exact ⟨h.1, h.2.1.trans hW, h.2.2⟩
theorem KH.K {G : GG} {s : State} {H : Heap} (h : KH G s H) : va_K G.2.1 CL (TY G.2.2.1) s := va_K.moved h.2.1.alike h.1.2.2
def noW : Nat → Prop := fun _ => False
def Keep (W0 : Nat → Prop) (H H1 : Heap) : Prop := H.size ≤ H1.size ∧ ∀ q : Nat, q < H.size → ¬ W0 q → H1[q]? = H[q]?
theorem Keep.rf {W0 : Nat → Prop} {H : Heap} : Keep W0 H H := ⟨Nat.le_refl _, fun _ _ _ => rfl⟩
theorem Keep.trans {W0 : Nat → Prop} {H H1 H2 : Heap} (h1 : Keep W0 H H1) (h2 : Keep W0 H1 H2) : Keep W0 H H2 := ⟨Nat.le_trans h1.1 h2.1, fun q a b => (h2.2 q (Nat.lt_of_lt_of_le a h1.1) b).trans (h1.2 q a b)⟩
theorem Keep.mono {W0 W1 : Nat → Prop} {H H1 : Heap} (h : Keep W0 H H1) (hw : ∀ q, q < H.size → W0 q → W1 q) : Keep W1 H H1 := ⟨h.1, fun q a b => h.2 q a (fun z => b (hw q a z))⟩
/-- what is written in between was not there before -/
theorem Keep.then {W0 W1 : Nat → Prop} {H H1 H2 : Heap} (h1 : Keep W0 H H1) (h2 : Keep W1 H1 H2) (hw : ∀ q, W1 q → q < H.size → W0 q) : Keep W0 H H2 := ⟨Nat.le_trans h1.1 h2.1, fun q a b => (h2.2 q (Nat.lt_of_lt_of_le a h1.1) (fun z => b (hw q z a))).trans (h1.2 q a b)⟩
theorem KH.keep {G : GG} {s : State} {H H1 : Heap} {W0 : Nat → Prop} (h : KH G s H) (k : Keep W0 H H1) (hw : ∀ q, W0 q → G.1.heap.size ≤ q) : KH G s H1 :=
  ⟨h.1, h.2.1, Nat.le_trans h.2.2.1 k.1, fun q hq => (k.2 q (Nat.lt_of_lt_of_le hq h.2.2.1) (fun z => absurd (hw q z) (by omega))).trans (h.2.2.2 q hq)⟩
theorem KH.ext {G : GG} {s : State} {H H1 : Heap} (h : KH G s H) (k : Keep noW H H1) : KH G s H1 := h.keep k (fun _ z => z.elim)
def xA (W0 : Nat → Prop) (H0 : Heap) : Nat → Prop := fun q => W0 q ∨ H0.size ≤ q
def xQ (Post : Option Value → Heap → Prop) (A : Nat → Prop) : Array Value → State → Outcome → State → Prop := fun _ st o t => ∃ v : Option Value, o = .returned v ∧ Post v t.heap ∧ va_F A st t
abbrev xP (G : GG) (as : List Value) (H0 : Heap) : Array Value → State → Prop := va_Pc as (fun U => U.heap = H0 ∧ KH G U U.heap)
/-- a method that changes nothing and makes nothing: its answer -/
def Ct0 (l : Launch) (G : GG) (y : MethodName) (b : ByteArray) (L : Nat) (r : Option FieldType) (fr lo : Nat) (as : List Value) (H0 : Heap) (v : Value) : Prop :=
  Met l y (ws_ y b L r) { frames := fr, cells := 0, slots := 0, locals := lo } (xP G as H0) (k2_QcV v) 0 0 (fun _ => False)
/-- a method that may make cells and write the old cells W0 -/
def Ct1 (l : Launch) (G : GG) (y : MethodName) (b : ByteArray) (L : Nat) (r : Option FieldType) (fr ce sl lo : Nat) (as : List Value) (H0 : Heap) (W0 : Nat → Prop) (Post : Option Value → Heap → Prop) : Prop :=
  Met l y (ws_ y b L r) { frames := fr, cells := ce, slots := sl, locals := lo } (xP G as H0) (xQ Post (xA W0 H0)) ce sl (xA W0 H0)
theorem x_fb {G : GG} {as : List Value} {H0 : Heap} : FrameBlind (xP G as H0) := fun a U g mk q => ⟨q.1, q.2.1, q.2.2⟩
theorem x_ps {G : GG} {s : State} {H : Heap} (as : List Value) (h : KH G s H) : PreS s H (xP G as H) as := ⟨x_fb, fun U hU hW => ⟨rfl, hU, h.use hU hW⟩⟩
theorem x_ofW {l : Launch} {y : MethodName} {ws ws' : List Cond} {rm : Room} {Pc : Array Value → State → Prop} {Qc : Array Value → State → Outcome → State → Prop} {mc ms : Nat} {free : Addr → Prop} {cc : ByteArray} {maxL : Nat} {ret : Option FieldType}
    (hy : plainFor y = true) (hw : ws = Cond.code y cc maxL ret :: ws')
    (body : ∀ p e s m args below meth c s₁, BodyLoose p l y (headSpec ws rm) cc maxL ret e s m args below meth c s₁ → c.maxLocals = maxL → Pc args s →
      W p l e (headSpec ws rm).room s m args below meth c s.heap [] 0 0 (MQ below Qc args s mc ms free) (entryFrame m args maxL)) : Met l y ws rm Pc Qc mc ms free := by
  refine MetFree.of_bodySF (code := cc) (maxLocals := maxL) (ret := ret) hy ?_ ?_
  · intro args s m h hn
    obtain ⟨meth, c, h1, h2, h3, h4, h5, h6, -, -⟩ := Cond.code_spec hn (atoms_spec (ws := ws) h _ (by rw [hw]; exact List.mem_cons_self))
    exact ⟨meth, c, h1, h2, h3, h4, h5, h6⟩
  · intro p e s m args below meth c s₁ B hml hP _
    have hh0 : s₁.heap = s.heap := by rw [B.state]; rfl
    obtain ⟨t, a1, o, b1, b2, b3⟩ := body p e s m args below meth c s₁ B hml hP s₁ hh0 (Stand.of_body B)
    exact ⟨t, o, a1, b1, b2, ⟨b3.1, b3.2⟩⟩
theorem Ct0.start {l : Launch} {G : GG} {y : MethodName} {b : ByteArray} {L : Nat} {r : Option FieldType} {fr lo : Nat} {as : List Value} {H0 : Heap} {v : Value} (hy : plainFor y = true) (hlen : (lg_sl as).length ≤ L)
    (body : ∀ (p : Program) (e : Env) (s : State) (m : MethodId) (below : List Frame) (meth : Method) (c : Code) (ls : Array Slot), p.tables.exec = Jvm.exec → c.code = b → meth.sig.returnType = r → CallFix p m c b L s as.toArray lw_all y.cls → meth.locks = false → s.heap = H0 → KH G s H0 → lv_has ls L (lv_args 0 as) →
      W p l e { frames := fr, cells := 0, slots := 0, locals := lo } s m as.toArray below meth c H0 [] 0 0 (MQ below (k2_QcV v) as.toArray s 0 0 (fun _ => False)) (F0 m 0 ls [])) : Ct0 l G y b L r fr lo as H0 v := by
  refine x_ofW (cc := b) (maxL := L) (ret := r) hy rfl ?_
  intro p e s m args below meth c s₁ B hml hv
  obtain ⟨rfl, hH, hK⟩ := hv
  have hts := atoms_spec (ws := ws_ y b L r) B.pre
  have hts : ∀ w ∈ lw_all, w.before _ s = true := fun w h => hts w (List.mem_cons_of_mem _ h)
  have hown : s.vm.findClass y.cls = some m.cls := findClass_of_methodNamed B.named
  have hl := lv_entry as (n := L) hlen
  rw [lg_entry_eq]
  rw [hH] at hK ⊢
  exact body p e s m below meth c _ B.exec B.bytes B.returns ⟨B.exec, B.bytes, hml, hown, hts⟩ B.notSynchronized hH hK hl
theorem Ct1.start {l : Launch} {G : GG} {y : MethodName} {b : ByteArray} {L : Nat} {r : Option FieldType} {fr ce sl lo : Nat} {as : List Value} {H0 : Heap} {W0 : Nat → Prop} {Post : Option Value → Heap → Prop} (hy : plainFor y = true) (hlen : (lg_sl as).length ≤ L)
    (body : ∀ (p : Program) (e : Env) (s : State) (m : MethodId) (below : List Frame) (meth : Method) (c : Code) (ls : Array Slot), p.tables.exec = Jvm.exec → c.code = b → meth.sig.returnType = r → CallFix p m c b L s as.toArray lw_all y.cls → meth.locks = false → meth.name = y.name → s.heap = H0 → KH G s H0 → va_S (xA W0 H0) H0 H0 [] → lv_has ls L (lv_args 0 as) →
      W p l e { frames := fr, cells := ce, slots := sl, locals := lo } s m as.toArray below meth c H0 [] 0 0 (MQ below (xQ Post (xA W0 H0)) as.toArray s ce sl (xA W0 H0)) (F0 m 0 ls [])) : Ct1 l G y b L r fr ce sl lo as H0 W0 Post := by
  refine x_ofW (cc := b) (maxL := L) (ret := r) hy rfl ?_
  intro p e s m args below meth c s₁ B hml hv
  obtain ⟨rfl, hH, hK⟩ := hv
  have hts := atoms_spec (ws := ws_ y b L r) B.pre
  have hts : ∀ w ∈ lw_all, w.before _ s = true := fun w h => hts w (List.mem_cons_of_mem _ h)
  have hown : s.vm.findClass y.cls = some m.cls := findClass_of_methodNamed B.named
  have hl := lv_entry as (n := L) hlen
  have hname : meth.name = y.name := (name_of_methodNamed B.named B.method).1
  rw [lg_entry_eq]
  rw [hH] at hK ⊢
  exact body p e s m below meth c _ B.exec B.bytes B.returns ⟨B.exec, B.bytes, hml, hown, hts⟩ B.notSynchronized hname hH hK va_S.rf hl
/-- the descriptor's number of parameters, and no handle -/
abbrev nMH (y : MethodName) (n : Nat) : Prop := y.cls ≠ "java/lang/invoke/MethodHandle" ∧ y.cls ≠ "java/lang/invoke/VarHandle" ∧ (parseMethodDescriptor y.desc).map (fun d => d.parameters.length) = some n
theorem va_one {D : va_G} {cl : List vw_C} {q : Nat × va_E} {H : Heap} (h : va_at D cl q H) : va_P D cl [q] H := by
  intro k q' hk
  have hz : k < 1 := (List.getElem?_eq_some_iff.mp hk).1
  rw [show k = 0 by omega] at hk
  cases hk
  exact h
theorem va_at.keep {D : va_G} {cl : List vw_C} {q : Nat × va_E} {H H1 : Heap} {W0 : Nat → Prop} (h : va_at D cl q H) (k : Keep W0 H H1) (hw : ¬ W0 q.1) : va_at D cl q H1 := h.kept (k.2 _ h.lt hw)
theorem va_at.ext {D : va_G} {cl : List vw_C} {q : Nat × va_E} {H H1 : Heap} (h : va_at D cl q H) (k : Keep noW H H1) : va_at D cl q H1 := h.keep k id
section XW
variable {p : Program} {l : Launch} {e : Env} {R : Room} {s : State} {m : MethodId} {args : Array Value} {below : List Frame} {meth : Method} {c : Code} {H : Heap} {locs : List Loc} {cells slots : Nat} {Q : State → Prop}
variable {cc : ByteArray} {pc : Nat} {ls : Array Slot} {rest : List Value} {G : GG} {own : String} {nL : Nat} {A : Nat → Prop} {H0 : Heap}
theorem x_ret0i (hx : p.tables.exec = Jvm.exec) (hb : c.code = cc) {a E : Int} (hr : meth.sig.returnType = some .int) (hlk : meth.locks = false) (hH : s.heap = H) (he : E = a) (d : decode cc pc = .ok (.ireturn, 1)) : W p l e R s m args below meth c H [] 0 0 (MQ below (k2_QcV (.int (iI E))) args s 0 0 (fun _ => False)) (F0 m (pc) ls ([.int (iI a)])) := by
  subst he; exact W.zret hx hb hr rfl (fun t ht hW => ⟨rfl, by rw [ht, hH]⟩) (fun q h => by cases h) d hlk
theorem x_ret0z (hx : p.tables.exec = Jvm.exec) (hb : c.code = cc) {a : Int} {E : Prop} [Decidable E] (hr : meth.sig.returnType = some .boolean) (hlk : meth.locks = false) (hH : s.heap = H) (he : b2i E = a) (d : decode cc pc = .ok (.ireturn, 1)) : W p l e R s m args below meth c H [] 0 0 (MQ below (k2_QcV (.int (iI (b2i E)))) args s 0 0 (fun _ => False)) (F0 m (pc) ls ([.int (iI a)])) := by
  subst he; exact W.zret hx hb hr nar_b2i (fun t ht hW => ⟨rfl, by rw [ht, hH]⟩) (fun q h => by cases h) d hlk
theorem x_ret0j (hx : p.tables.exec = Jvm.exec) (hb : c.code = cc) {a E : Int} (hr : meth.sig.returnType = some .long) (hlk : meth.locks = false) (hH : s.heap = H) (he : E = a) (d : decode cc pc = .ok (.lreturn, 1)) : W p l e R s m args below meth c H [] 0 0 (MQ below (k2_QcV (.long (jI E))) args s 0 0 (fun _ => False)) (F0 m (pc) ls ([.long (jI a)])) := by
  subst he; exact W.lret hx hb hr (fun t ht hW => ⟨rfl, by rw [ht, hH]⟩) (fun q h => by cases h) d hlk
theorem x_ret0d (hx : p.tables.exec = Jvm.exec) (hb : c.code = cc) {a E : UInt64} (hr : meth.sig.returnType = some .double) (hlk : meth.locks = false) (hH : s.heap = H) (he : E = a) (d : decode cc pc = .ok (.dreturn, 1)) : W p l e R s m args below meth c H [] 0 0 (MQ below (k2_QcV (.double E)) args s 0 0 (fun _ => False)) (F0 m (pc) ls ([.double a])) := by
  subst he; exact W.dret hx hb hr (fun t ht hW => ⟨rfl, by rw [ht, hH]⟩) (fun q h => by cases h) d hlk
theorem x_ret0a (hx : p.tables.exec = Jvm.exec) (hb : c.code = cc) {a E : Nat} {rt : FieldType} (hr : meth.sig.returnType = some rt) (hlk : meth.locks = false) (hH : s.heap = H) (hrt : (∃ n, rt = .object n) ∨ ∃ t, rt = .array t) (he : E = a) (d : decode cc pc = .ok (.areturn, 1)) : W p l e R s m args below meth c H [] 0 0 (MQ below (k2_QcV (.ref E)) args s 0 0 (fun _ => False)) (F0 m (pc) ls ([.ref a])) := by
  subst he; exact W.aret hx hb hr hrt (Or.inr ⟨_, rfl⟩) (fun t ht hW => ⟨rfl, by rw [ht, hH]⟩) (fun q h => by cases h) d hlk
theorem x_ret1i (hx : p.tables.exec = Jvm.exec) (hb : c.code = cc) {W0 : Nat → Prop} {Post : Option Value → Heap → Prop} {ce sl : Nat} {a : Int} (hr : meth.sig.returnType = some .int) (hlk : meth.locks = false) (hH : s.heap = H0) (hS : va_S (xA W0 H0) H0 H locs) (hc : cells ≤ ce) (hs : slots ≤ sl)  (hp : Post (some (.int (iI a))) H) (d : decode cc pc = .ok (.ireturn, 1)) : W p l e R s m args below meth c H locs cells slots (MQ below (xQ Post (xA W0 H0)) args s ce sl (xA W0 H0)) (F0 m (pc) ls ([.int (iI a)])) := by
  refine W.widen hc hs ?_
  subst hH
  exact W.zret hx hb hr rfl (fun t ht hW => ⟨_, rfl, by rw [ht]; exact hp, hS.F ht⟩) hS.2.2 d hlk
theorem x_ret1z (hx : p.tables.exec = Jvm.exec) (hb : c.code = cc) {W0 : Nat → Prop} {Post : Option Value → Heap → Prop} {ce sl : Nat} {a : Int} {E : Prop} [Decidable E] (hr : meth.sig.returnType = some .boolean) (hlk : meth.locks = false) (hH : s.heap = H0) (hS : va_S (xA W0 H0) H0 H locs) (hc : cells ≤ ce) (hs : slots ≤ sl) (he : b2i E = a) (hp : Post (some (.int (iI a))) H) (d : decode cc pc = .ok (.ireturn, 1)) : W p l e R s m args below meth c H locs cells slots (MQ below (xQ Post (xA W0 H0)) args s ce sl (xA W0 H0)) (F0 m (pc) ls ([.int (iI a)])) := by
  refine W.widen hc hs ?_
  subst hH
  exact W.zret hx hb hr (by rw [← he]; exact nar_b2i) (fun t ht hW => ⟨_, rfl, by rw [ht]; exact hp, hS.F ht⟩) hS.2.2 d hlk
theorem x_ret1n (hx : p.tables.exec = Jvm.exec) (hb : c.code = cc) {W0 : Nat → Prop} {Post : Option Value → Heap → Prop} {ce sl : Nat} {a : Int32} {ty : FieldType} (hr : meth.sig.returnType = some ty) (hlk : meth.locks = false) (hH : s.heap = H0) (hS : va_S (xA W0 H0) H0 H locs) (hc : cells ≤ ce) (hs : slots ≤ sl) (hn : narrow ty (.int a) = .int a) (hp : Post (some (.int a)) H) (d : decode cc pc = .ok (.ireturn, 1)) : W p l e R s m args below meth c H locs cells slots (MQ below (xQ Post (xA W0 H0)) args s ce sl (xA W0 H0)) (F0 m (pc) ls ([.int a])) := by
  refine W.widen hc hs ?_
  subst hH
  exact W.zret hx hb hr hn (fun t ht hW => ⟨_, rfl, by rw [ht]; exact hp, hS.F ht⟩) hS.2.2 d hlk
theorem x_ret1j (hx : p.tables.exec = Jvm.exec) (hb : c.code = cc) {W0 : Nat → Prop} {Post : Option Value → Heap → Prop} {ce sl : Nat} {a : Int} (hr : meth.sig.returnType = some .long) (hlk : meth.locks = false) (hH : s.heap = H0) (hS : va_S (xA W0 H0) H0 H locs) (hc : cells ≤ ce) (hs : slots ≤ sl)  (hp : Post (some (.long (jI a))) H) (d : decode cc pc = .ok (.lreturn, 1)) : W p l e R s m args below meth c H locs cells slots (MQ below (xQ Post (xA W0 H0)) args s ce sl (xA W0 H0)) (F0 m (pc) ls ([.long (jI a)])) := by
  refine W.widen hc hs ?_
  subst hH
  exact W.lret hx hb hr (fun t ht hW => ⟨_, rfl, by rw [ht]; exact hp, hS.F ht⟩) hS.2.2 d hlk
theorem x_ret1d (hx : p.tables.exec = Jvm.exec) (hb : c.code = cc) {W0 : Nat → Prop} {Post : Option Value → Heap → Prop} {ce sl : Nat} {a : UInt64} (hr : meth.sig.returnType = some .double) (hlk : meth.locks = false) (hH : s.heap = H0) (hS : va_S (xA W0 H0) H0 H locs) (hc : cells ≤ ce) (hs : slots ≤ sl)  (hp : Post (some (.double a)) H) (d : decode cc pc = .ok (.dreturn, 1)) : W p l e R s m args below meth c H locs cells slots (MQ below (xQ Post (xA W0 H0)) args s ce sl (xA W0 H0)) (F0 m (pc) ls ([.double a])) := by
  refine W.widen hc hs ?_
  subst hH
  exact W.dret hx hb hr (fun t ht hW => ⟨_, rfl, by rw [ht]; exact hp, hS.F ht⟩) hS.2.2 d hlk
theorem x_ret1a (hx : p.tables.exec = Jvm.exec) (hb : c.code = cc) {W0 : Nat → Prop} {Post : Option Value → Heap → Prop} {ce sl : Nat} {a : Nat} {rt : FieldType} (hr : meth.sig.returnType = some rt) (hlk : meth.locks = false) (hH : s.heap = H0) (hS : va_S (xA W0 H0) H0 H locs) (hc : cells ≤ ce) (hs : slots ≤ sl) (hrt : (∃ n, rt = .object n) ∨ ∃ t, rt = .array t) (hp : Post (some (.ref a)) H) (d : decode cc pc = .ok (.areturn, 1)) : W p l e R s m args below meth c H locs cells slots (MQ below (xQ Post (xA W0 H0)) args s ce sl (xA W0 H0)) (F0 m (pc) ls ([.ref a])) := by
  refine W.widen hc hs ?_
  subst hH
  exact W.aret hx hb hr hrt (Or.inr ⟨_, rfl⟩) (fun t ht hW => ⟨_, rfl, by rw [ht]; exact hp, hS.F ht⟩) hS.2.2 d hlk
theorem x_ret1N (hx : p.tables.exec = Jvm.exec) (hb : c.code = cc) {W0 : Nat → Prop} {Post : Option Value → Heap → Prop} {ce sl : Nat} {rt : FieldType} (hr : meth.sig.returnType = some rt) (hlk : meth.locks = false) (hH : s.heap = H0) (hS : va_S (xA W0 H0) H0 H locs) (hc : cells ≤ ce) (hs : slots ≤ sl) (hrt : (∃ n, rt = .object n) ∨ ∃ t, rt = .array t) (hp : Post (some .null) H) (d : decode cc pc = .ok (.areturn, 1)) : W p l e R s m args below meth c H locs cells slots (MQ below (xQ Post (xA W0 H0)) args s ce sl (xA W0 H0)) (F0 m (pc) ls ([.null])) := by
  refine W.widen hc hs ?_
  subst hH
  exact W.aret hx hb hr hrt (Or.inl rfl) (fun t ht hW => ⟨_, rfl, by rw [ht]; exact hp, hS.F ht⟩) hS.2.2 d hlk
theorem x_ret1v (hx : p.tables.exec = Jvm.exec) (hb : c.code = cc) {W0 : Nat → Prop} {Post : Option Value → Heap → Prop} {ce sl : Nat}  (hr : meth.sig.returnType = none) (hlk : meth.locks = false) (hH : s.heap = H0) (hS : va_S (xA W0 H0) H0 H locs) (hc : cells ≤ ce) (hs : slots ≤ sl)  (hp : Post (none) H) (d : decode cc pc = .ok (.return_, 1)) : W p l e R s m args below meth c H locs cells slots (MQ below (xQ Post (xA W0 H0)) args s ce sl (xA W0 H0)) (F0 m (pc) ls ([])) := by
  refine W.widen hc hs ?_
  subst hH
  exact W.vret hx hb hr (fun t ht hW => ⟨_, rfl, by rw [ht]; exact hp, hS.F ht⟩) hS.2.2 d hlk
theorem x_c0S (S : CallFix p m c cc nL s args lw_all own) (hK : KH G s H) {y : MethodName} {bytes : ByteArray} {maxL index n : Nat} {ret : Option FieldType} {fr lo F C SL LO : Nat} {as : List Value} {st0 : List Value} {v : Value}  (hM : Ct0 l G y bytes maxL ret fr lo (as) H v) (q1 : Cond.methodLink own index y ∈ lw_all) (q2 : Cond.static y ∈ lw_all) (q3 : Cond.initialized y.cls ∈ lw_all) (q4 : Cond.code y bytes maxL ret ∈ lw_all) (hn : nMH y n) (hR : fr + 1 ≤ F ∧ 8 + (maxL + 11) + lo ≤ LO) (hsz : ls.size = nL) (has : as.length = n) (hst : st0 = as.reverse ++ rest) (hct : (rest.map fun v => v.category).sum ≤ 8) (hcs : cells ≤ C ∧ slots ≤ SL) (d : decode cc pc = .ok (.invokestatic index, 3))
    (kk : W p l e { frames := F, cells := C, slots := SL, locals := LO } s m args below meth c H locs cells slots Q (F0 m (pc + 3) ls (v :: rest))) : W p l e { frames := F, cells := C, slots := SL, locals := LO } s m args below meth c H locs cells slots Q (F0 m (pc) ls (st0)) :=
  W.callV (W.runS (R := { frames := F, cells := C, slots := SL, locals := LO }) (As := as) S hM (va_cwS n S.2.2.2.2 (lw_S q1 q2 q3 q4) rfl rfl rfl hn hR) (x_ps as hK) rfl has hsz hst (lv_room hct) d hcs) kk
theorem x_c0V (S : CallFix p m c cc nL s args lw_all own) (hK : KH G s H) {y : MethodName} {bytes : ByteArray} {maxL index n : Nat} {ret : Option FieldType} {fr lo F C SL LO : Nat} {as : List Value} {st0 : List Value} {v : Value} {b : Addr} {ci : Nat} {fs : List Value} {q : vw_C} (hq : va_at G.2.1 CL (b, .inr (ci, fs)) H) (hc : CL[ci]? = some q) (hcl : q.1 = y.cls) (hM : Ct0 l G y bytes maxL ret fr lo (.ref b :: as) H v) (q1 : Cond.methodLink own index y ∈ lw_all) (q2 : Cond.instanceMethod y ∈ lw_all) (q5 : Cond.selects y.cls y y ∈ lw_all) (q3 : Cond.initialized y.cls ∈ lw_all) (q4 : Cond.code y bytes maxL ret ∈ lw_all) (hn : nMH y n) (hR : fr + 1 ≤ F ∧ 8 + (maxL + 11) + lo ≤ LO) (hsz : ls.size = nL) (has : as.length = n) (hst : st0 = as.reverse ++ .ref b :: rest) (hct : (rest.map fun v => v.category).sum ≤ 8) (hcs : cells ≤ C ∧ slots ≤ SL) (d : decode cc pc = .ok (.invokevirtual index, 3))
    (kk : W p l e { frames := F, cells := C, slots := SL, locals := LO } s m args below meth c H locs cells slots Q (F0 m (pc + 3) ls (v :: rest))) : W p l e { frames := F, cells := C, slots := SL, locals := LO } s m args below meth c H locs cells slots Q (F0 m (pc) ls (st0)) :=
  W.callV (W.runV (R := { frames := F, cells := C, slots := SL, locals := LO }) (As := as) S hM (cwV n S.2.2.2.2 (lw_V q1 q2 q5 q3 q4) rfl rfl rfl ⟨rfl, hn.1, hn.2.1, hn.2.2⟩ hR) ⟨x_fb, hcl ▸ va_recv hK.K (va_one hq) hc (q0 := 0) rfl, (x_ps (.ref b :: as) hK).2⟩ rfl has hsz hst (lv_room hct) d hcs) kk
theorem x_call1 {W0 : Nat → Prop} {Post : Option Value → Heap → Prop} {a : Array Value} {st0 : List Value} {ce sl : Nat} (hr : va_Run p l e R s m args below meth c H locs cells slots ce sl (F0 m pc ls st0) rest (xQ Post (xA W0 H) a) (xA W0 H)) (hS : va_S A H0 H locs) (hW : ∀ q, W0 q → A q) (hA : ∀ q, H0.size ≤ q → A q)
    (kk : ∀ (v : Option Value) (H1 : Heap) (locs1 : List Loc), Post v H1 → Keep W0 H H1 → va_S A H0 H1 locs1 → W p l e R s m args below meth c H1 locs1 (cells + ce) (slots + sl) Q (F0 m (pc + 3) ls (v.toList ++ rest))) : W p l e R s m args below meth c H locs cells slots Q (F0 m (pc) ls (st0)) := by
  intro T hT X
  obtain ⟨v, st₀, t, T', L, h0, X', hL, e1, e2, ⟨v', hv, hp, hz, hk⟩, st⟩ := hr T hT X
  cases hv
  rw [h0] at hz hk
  have hAq : ∀ q, xA W0 H q → A q := fun q h => h.elim (hW q) (fun z => hA q (Nat.le_trans hS.1 z))
  have kp : Keep W0 H T'.heap := ⟨by rw [e1]; exact hz, fun q h1 h2 => by rw [e1]; exact hk q h1 (fun z => z.elim h2 (fun y => absurd h1 (Nat.not_lt.mpr y)))⟩
  obtain ⟨t2, a1, b1⟩ := kk v T'.heap (locs ++ L) (by rw [e1]; exact hp) kp ⟨Nat.le_trans hS.1 kp.1, fun q h1 h2 => (kp.2 q (Nat.lt_of_lt_of_le h1 hS.1) (fun z => h2 (hW q z))).trans (hS.2.1 q h1 h2), fun q hq => by
      rcases List.mem_append.mp hq with h | h
      · exact hS.2.2 q h
      · exact hAq _ (hL q h)⟩ T' rfl X'
  exact ⟨t2, st t2 a1, b1⟩
theorem x_c1S (S : CallFix p m c cc nL s args lw_all own) (hK : KH G s H) {y : MethodName} {bytes : ByteArray} {maxL index n : Nat} {ret : Option FieldType} {fr lo F C SL LO : Nat} {as : List Value} {st0 : List Value} {ce sl : Nat} {W0 : Nat → Prop} {Post : Option Value → Heap → Prop}  (hM : Ct1 l G y bytes maxL ret fr ce sl lo (as) H W0 Post) (q1 : Cond.methodLink own index y ∈ lw_all) (q2 : Cond.static y ∈ lw_all) (q3 : Cond.initialized y.cls ∈ lw_all) (q4 : Cond.code y bytes maxL ret ∈ lw_all) (hn : nMH y n) (hR : fr + 1 ≤ F ∧ 8 + (maxL + 11) + lo ≤ LO) (hsz : ls.size = nL) (has : as.length = n) (hst : st0 = as.reverse ++ rest) (hct : (rest.map fun v => v.category).sum ≤ 8) (hcs : cells + ce ≤ C ∧ slots + sl ≤ SL) (hS : va_S A H0 H locs) (hW : ∀ q, W0 q → A q) (hA : ∀ q, H0.size ≤ q → A q) (d : decode cc pc = .ok (.invokestatic index, 3))
    (kk : ∀ (v : Option Value) (H1 : Heap) (locs1 : List Loc), Post v H1 → Keep W0 H H1 → va_S A H0 H1 locs1 → W p l e { frames := F, cells := C, slots := SL, locals := LO } s m args below meth c H1 locs1 (cells + ce) (slots + sl) Q (F0 m (pc + 3) ls (v.toList ++ rest))) : W p l e { frames := F, cells := C, slots := SL, locals := LO } s m args below meth c H locs cells slots Q (F0 m (pc) ls (st0)) :=
  x_call1 (va_runS (R := { frames := F, cells := C, slots := SL, locals := LO }) (As := as) S hM (va_cwS n S.2.2.2.2 (lw_S q1 q2 q3 q4) rfl rfl rfl hn hR) (x_ps as hK) rfl has hsz hst (lv_room hct) d hcs) hS hW hA kk
theorem x_c1V (S : CallFix p m c cc nL s args lw_all own) (hK : KH G s H) {y : MethodName} {bytes : ByteArray} {maxL index n : Nat} {ret : Option FieldType} {fr lo F C SL LO : Nat} {as : List Value} {st0 : List Value} {ce sl : Nat} {W0 : Nat → Prop} {Post : Option Value → Heap → Prop} {b : Addr} {ci : Nat} {fs : List Value} {q : vw_C} (hq : va_at G.2.1 CL (b, .inr (ci, fs)) H) (hc : CL[ci]? = some q) (hcl : q.1 = y.cls) (hM : Ct1 l G y bytes maxL ret fr ce sl lo (.ref b :: as) H W0 Post) (q1 : Cond.methodLink own index y ∈ lw_all) (q2 : Cond.instanceMethod y ∈ lw_all) (q5 : Cond.selects y.cls y y ∈ lw_all) (q3 : Cond.initialized y.cls ∈ lw_all) (q4 : Cond.code y bytes maxL ret ∈ lw_all) (hn : nMH y n) (hR : fr + 1 ≤ F ∧ 8 + (maxL + 11) + lo ≤ LO) (hsz : ls.size = nL) (has : as.length = n) (hst : st0 = as.reverse ++ .ref b :: rest) (hct : (rest.map fun v => v.category).sum ≤ 8) (hcs : cells + ce ≤ C ∧ slots + sl ≤ SL) (hS : va_S A H0 H locs) (hW : ∀ q, W0 q → A q) (hA : ∀ q, H0.size ≤ q → A q) (d : decode cc pc = .ok (.invokevirtual index, 3))
    (kk : ∀ (v : Option Value) (H1 : Heap) (locs1 : List Loc), Post v H1 → Keep W0 H H1 → va_S A H0 H1 locs1 → W p l e { frames := F, cells := C, slots := SL, locals := LO } s m args below meth c H1 locs1 (cells + ce) (slots + sl) Q (F0 m (pc + 3) ls (v.toList ++ rest))) : W p l e { frames := F, cells := C, slots := SL, locals := LO } s m args below meth c H locs cells slots Q (F0 m (pc) ls (st0)) :=
  x_call1 (va_runV (R := { frames := F, cells := C, slots := SL, locals := LO }) (As := as) S hM (cwV n S.2.2.2.2 (lw_V q1 q2 q5 q3 q4) rfl rfl rfl ⟨rfl, hn.1, hn.2.1, hn.2.2⟩ hR) ⟨x_fb, hcl ▸ va_recv hK.K (va_one hq) hc (q0 := 0) rfl, (x_ps (.ref b :: as) hK).2⟩ rfl has hsz hst (lv_room hct) d hcs) hS hW hA kk
theorem x_c1I (S : CallFix p m c cc nL s args lw_all own) (hK : KH G s H) {y : MethodName} {bytes : ByteArray} {maxL index n : Nat} {ret : Option FieldType} {fr lo F C SL LO : Nat} {as : List Value} {st0 : List Value} {ce sl : Nat} {W0 : Nat → Prop} {Post : Option Value → Heap → Prop} {b : Addr} (hM : Ct1 l G y bytes maxL none fr ce sl lo (.ref b :: as) H W0 Post) (q1 : Cond.methodLink own index y ∈ lw_all) (q2 : Cond.instanceMethod y ∈ lw_all) (q3 : Cond.initialized y.cls ∈ lw_all) (q4 : Cond.code y bytes maxL none ∈ lw_all) (hy1 : y.name = "<init>") (hn : nMH y n) (hR : fr + 1 ≤ F ∧ 8 + (maxL + 11) + lo ≤ LO) (hsz : ls.size = nL) (has : as.length = n) (hst : st0 = as.reverse ++ .ref b :: rest) (hct : (rest.map fun v => v.category).sum ≤ 8) (hcs : cells + ce ≤ C ∧ slots + sl ≤ SL) (hS : va_S A H0 H locs) (hW : ∀ q, W0 q → A q) (hA : ∀ q, H0.size ≤ q → A q) (d : decode cc pc = .ok (.invokespecial index, 3))
    (kk : ∀ (v : Option Value) (H1 : Heap) (locs1 : List Loc), Post v H1 → Keep W0 H H1 → va_S A H0 H1 locs1 → W p l e { frames := F, cells := C, slots := SL, locals := LO } s m args below meth c H1 locs1 (cells + ce) (slots + sl) Q (F0 m (pc + 3) ls (v.toList ++ rest))) : W p l e { frames := F, cells := C, slots := SL, locals := LO } s m args below meth c H locs cells slots Q (F0 m (pc) ls (st0)) :=
  x_call1 (va_runI (R := { frames := F, cells := C, slots := SL, locals := LO }) (As := as) S hM (cwI n S.2.2.2.2 (lw_meth q4) rfl rfl rfl (S.2.2.2.2 _ q3) (S.2.2.2.2 _ q1) (S.2.2.2.2 _ q2) hy1 hn hR) (x_ps (.ref b :: as) hK) rfl has hsz hst (lv_room hct) d hcs) hS hW hA kk
theorem x_get (S : CallFix p m c cc nL s args lw_all own) (hK : KH G s H) {C ref : String} {T : u_T} {N ci index : Nat} (hin : ∀ w ∈ u_ws C T N, w ∈ lw_all) {a : Nat} {fs : List Value} (hq : va_at G.2.1 CL (a, .inr (ci, fs)) H) (hc : CL[ci]? = some (C, T, N)) (k : Nat) (hk : k < N) (qf : Cond.fieldLink own index ref (T k).2.1 (T k).2.2.1 ∈ lw_all) (hsame : ∀ x, s.fieldFound? (T k).1 (T k).2.1 (T k).2.2.1 = some x → s.fieldFound? ref (T k).2.1 (T k).2.2.1 = some x) {v : Value} (hv : fs[k]? = some v) (d : decode cc pc = .ok (.getfield index, 3)) (kk : W p l e R s m args below meth c H locs cells slots Q (F0 m (pc + 3) ls (v :: rest))) : W p l e R s m args below meth c H locs cells slots Q (F0 m (pc) ls (.ref a :: rest)) :=
  va_get S.1 S.2.1 S.2.2.2.2 hin S.2.2.2.1 hK.K (va_one hq) 0 rfl hc k hk (S.2.2.2.2 _ qf) hsame hv d kk
theorem x_put (S : CallFix p m c cc nL s args lw_all own) (hK : KH G s H) {C ref : String} {T : u_T} {N ci index : Nat} (hin : ∀ w ∈ u_ws C T N, w ∈ lw_all) {a : Nat} {fs : List Value} (ty0 : Nat → FieldType) (hty : ∀ k, k < N → parseFieldDescriptor (T k).2.2.1 = some (ty0 k)) (hnm : ∀ a, a < N → ∀ b, b < N → a ≠ b → (T a).2.1 ≠ (T b).2.1) (hq : va_at G.2.1 CL (a, .inr (ci, fs)) H) (hc : CL[ci]? = some (C, T, N)) (k : Nat) (hk : k < N) (qf : Cond.fieldLink own index ref (T k).2.1 (T k).2.2.1 ∈ lw_all) (hsame : ∀ x, s.fieldFound? (T k).1 (T k).2.1 (T k).2.2.1 = some x → s.fieldFound? ref (T k).2.1 (T k).2.2.1 = some x) (hfin : (T k).2.2.2 = false) {v : Value} (hnv : narrow (ty0 k) v = v) (hfit : fits (ty0 k) v = true) (hl : k < fs.length) (hS0 : va_S A H0 H locs) (hAa : A a) (d : decode cc pc = .ok (.putfield index, 3))
    (kk : ∀ (H1 : Heap) (locs1 : List Loc), va_at G.2.1 CL (a, .inr (ci, fs.set k v)) H1 → Keep (fun q => q = a) H H1 → H1.size = H.size → va_S A H0 H1 locs1 → W p l e R s m args below meth c H1 locs1 cells slots Q (F0 m (pc + 3) ls (rest))) : W p l e R s m args below meth c H locs cells slots Q (F0 m (pc) ls (v :: .ref a :: rest)) := by
  have hap := va_apart (own := own) S.2.2.2.2 hin ty0 hty hnm hK.K hc
  obtain ⟨r, h1, cell, g1, g2, g3, g4⟩ := hq
  have hr : r = (C, T, N) := Option.some.inj (h1.symm.trans hc)
  subst hr
  obtain ⟨hSl, hfc, kC, hkC, hkind⟩ := hK.K.1 ci _ hc
  obtain ⟨cf, kf, fi, f, hi, hsl⟩ := hSl k hk
  have hlay := S.2.2.2.2 _ (hin _ (u_in_lay hk))
  unfold u_lay at hlay
  rw [if_neg (by rw [hfin]; decide)] at hlay
  have hst := (u_facts hfc hkC (u_lays S.2.2.2.2 hin hk) hi).1
  have h6 := u_store hfc hkC hkind hlay hi (hty k hk) hnv hfit
  refine W.putK S.1 S.2.1 (f := f) ⟨S.2.2.2.1, S.2.2.2.2 _ qf, ⟨_, _, _, hsame _ hi⟩, hst⟩ (by rw [g2]; exact h6) g1 g3 (by rw [hsl]; exact k2_hasslot (g4 k hk)) rfl rfl d fun H' e1 e2 e3 => ?_
  rw [hsl] at e1 ⊢
  exact kk H' _ ⟨_, hc, t_OB.to (V := updV (vp_V fs) k v) ⟨_, e1, g2, g3, t_set g4 hap hk v⟩ (fun j _ => vp_updV_set hl v j)⟩ ⟨Nat.le_of_eq e2.symm, fun q _ hne => e3 q hne⟩ e2 (hS0.put e2 e3 hAa)
theorem x_putF (S : CallFix p m c cc nL s args lw_all own) (hK : KH G s H) {C ref : String} {T : u_T} {N ci index : Nat} (hin : ∀ w ∈ u_ws C T N, w ∈ lw_all) {a : Nat} {fs : List Value} (ty0 : Nat → FieldType) (hty : ∀ k, k < N → parseFieldDescriptor (T k).2.2.1 = some (ty0 k)) (hnm : ∀ a, a < N → ∀ b, b < N → a ≠ b → (T a).2.1 ≠ (T b).2.1) (hq : va_at G.2.1 CL (a, .inr (ci, fs)) H) (hc : CL[ci]? = some (C, T, N)) (k : Nat) (hk : k < N) (qf : Cond.fieldLink own index ref (T k).2.1 (T k).2.2.1 ∈ lw_all) (hsame : ∀ x, s.fieldFound? (T k).1 (T k).2.1 (T k).2.2.1 = some x → s.fieldFound? ref (T k).2.1 (T k).2.2.1 = some x) (hfin : (T k).2.2.2 = true) (hin2 : meth.name = "<init>") (hdecl : (T k).1 = own) {v : Value} (hnv : narrow (ty0 k) v = v) (hfit : fits (ty0 k) v = true) (hl : k < fs.length) (hS0 : va_S A H0 H locs) (hAa : A a) (d : decode cc pc = .ok (.putfield index, 3))
    (kk : ∀ (H1 : Heap) (locs1 : List Loc), va_at G.2.1 CL (a, .inr (ci, fs.set k v)) H1 → Keep (fun q => q = a) H H1 → H1.size = H.size → va_S A H0 H1 locs1 → W p l e R s m args below meth c H1 locs1 cells slots Q (F0 m (pc + 3) ls (rest))) : W p l e R s m args below meth c H locs cells slots Q (F0 m (pc) ls (v :: .ref a :: rest)) := by
  have hap := va_apart (own := own) S.2.2.2.2 hin ty0 hty hnm hK.K hc
  obtain ⟨r, h1, cell, g1, g2, g3, g4⟩ := hq
  have hr : r = (C, T, N) := Option.some.inj (h1.symm.trans hc)
  subst hr
  obtain ⟨hSl, hfc, kC, hkC, hkind⟩ := hK.K.1 ci _ hc
  obtain ⟨cf, kf, fi, f, hi, hsl⟩ := hSl k hk
  have hlay := S.2.2.2.2 _ (hin _ (u_in_lay hk))
  unfold u_lay at hlay
  rw [if_pos hfin] at hlay
  have hst := (u_facts hfc hkC (u_lays S.2.2.2.2 hin hk) hi).1
  have hcf : m.cls = cf := by
    obtain ⟨_, _, c', _, _, _, -, -, hf', -, -, -, hown2, -⟩ := Cond.laysFinal_spec hlay
    have e1 : c' = cf := by have := hi.symm.trans hf'; simp at this; exact this.1.symm
    rw [hdecl] at hown2
    rw [← e1]; exact Option.some.inj (S.2.2.2.1.symm.trans hown2)
  have h6 := u_fits hfc hkC hkind (Or.inr hlay) hi (hty k hk) hnv hfit
  refine W.putFinK S.1 S.2.1 S.2.2.2.1 (S.2.2.2.2 _ qf) (hsame _ hi) hst hcf hin2 (by rw [g2]; exact h6) g1 g3 (by rw [hsl]; exact k2_hasslot (g4 k hk)) rfl rfl d fun H' e1 e2 e3 => ?_
  rw [hsl] at e1 ⊢
  exact kk H' _ ⟨_, hc, t_OB.to (V := updV (vp_V fs) k v) ⟨_, e1, g2, g3, t_set g4 hap hk v⟩ (fun j _ => vp_updV_set hl v j)⟩ ⟨Nat.le_of_eq e2.symm, fun q _ hne => e3 q hne⟩ e2 (hS0.put e2 e3 hAa)
theorem x_new (S : CallFix p m c cc nL s args lw_all own) (hK : KH G s H) {C : String} {T : u_T} {N ci index : Nat} (hin : ∀ w ∈ u_ws C T N, w ∈ lw_all) (ty : Nat → FieldType) (hty : ∀ k, k < N → parseFieldDescriptor (T k).2.2.1 = some (ty k)) (qc : Cond.classLink own index C ∈ lw_all) (qi : Cond.instantiable C N ∈ lw_all) (qn : Cond.initialized C ∈ lw_all) (hc : CL[ci]? = some (C, T, N)) (fs : List Value) (hfs : ∀ j, j < N → defaultValue (ty j) = vp_V fs j) (hcs : cells + 1 ≤ R.cells ∧ slots + N ≤ R.slots) (hS : va_S A H0 H locs) (d : decode cc pc = .ok (.new index, 3))
    (kk : ∀ (a : Nat) (H1 : Heap), a = H.size → va_at G.2.1 CL (a, .inr (ci, fs)) H1 → Keep noW H H1 → va_S A H0 H1 locs → W p l e R s m args below meth c H1 locs (cells + 1) (slots + N) Q (F0 m (pc + 3) ls (.ref a :: rest))) : W p l e R s m args below meth c H locs cells slots Q (F0 m (pc) ls (rest)) := by
  have hKn := hK.K.1 ci _ hc
  refine W.newcK S.1 S.2.1 S.2.2.2.1 (S.2.2.2.2 _ qc) (S.2.2.2.2 _ qi) (S.2.2.2.2 _ qn) rfl d hcs.1 hcs.2 hKn.2.1 rfl fun H1 kC hkC e1 z1 o1 => ?_
  exact kk H.size H1 rfl ⟨_, hc, (u_born ty S.2.2.2.2 hin hKn hkC e1 hty).to hfs⟩ ⟨by omega, fun q h _ => o1 q h⟩ ⟨Nat.le_trans hS.1 (by omega), fun x h1 h2 => (o1 x (Nat.lt_of_lt_of_le h1 hS.1)).trans (hS.2.1 x h1 h2), hS.2.2⟩
theorem x_newai (S : CallFix p m c cc nL s args lw_all own) (hK : KH G s H) (qa : Cond.arrayClass .int ∈ lw_all) {z : Int} (hz : 0 ≤ z ∧ z < 100000000) (hcs : cells + 1 ≤ R.cells ∧ slots + z.toNat ≤ R.slots) (hS : va_S A H0 H locs) (d : decode cc pc = .ok (.newarray .int, 2))
    (kk : ∀ (a : Nat) (H1 : Heap), a = H.size → va_at G.2.1 CL (a, .inl (G.2.2.1 0, z.toNat, .inl (fun _ => 0))) H1 → Keep noW H H1 → va_S A H0 H1 locs → W p l e R s m args below meth c H1 locs (cells + 1) (slots + z.toNat) Q (F0 m (pc + 2) ls (.ref a :: rest))) : W p l e R s m args below meth c H locs cells slots Q (F0 m (pc) ls (.int (iI z) :: rest)) := by
  have hz2 : (iI z).toNatClampNeg = z.toNat := iI_cl (by omega)
  refine va_newaK (atype := .int) S.1 S.2.1 (S.2.2.2.2 _ qa) rfl d rfl (fun h => by rw [← iI_0, iI_lt (by omega) (by omega)] at h; omega) hz2 (by show z.toNat * 4 ≤ 536870912; omega) hcs.1 hcs.2 rfl fun H1 cA e1 z1 o1 hAr hNm => ?_
  have hcA : cA = G.2.2.1 0 := Option.some.inj (hNm.symm.trans (hK.K.2 0 _ rfl).2)
  subst hcA
  exact kk H.size H1 rfl e1 ⟨by omega, fun q h _ => o1 q h⟩ ⟨Nat.le_trans hS.1 (by omega), fun x h1 h2 => (o1 x (Nat.lt_of_lt_of_le h1 hS.1)).trans (hS.2.1 x h1 h2), hS.2.2⟩
theorem x_newab (S : CallFix p m c cc nL s args lw_all own) (hK : KH G s H) (qa : Cond.arrayClass .byte ∈ lw_all) {z : Int} (hz : 0 ≤ z ∧ z < 100000000) (hcs : cells + 1 ≤ R.cells ∧ slots + z.toNat ≤ R.slots) (hS : va_S A H0 H locs) (d : decode cc pc = .ok (.newarray .byte, 2))
    (kk : ∀ (a : Nat) (H1 : Heap), a = H.size → va_at G.2.1 CL (a, .inl (G.2.2.1 1, z.toNat, .inl (fun _ => 0))) H1 → Keep noW H H1 → va_S A H0 H1 locs → W p l e R s m args below meth c H1 locs (cells + 1) (slots + z.toNat) Q (F0 m (pc + 2) ls (.ref a :: rest))) : W p l e R s m args below meth c H locs cells slots Q (F0 m (pc) ls (.int (iI z) :: rest)) := by
  have hz2 : (iI z).toNatClampNeg = z.toNat := iI_cl (by omega)
  refine va_newaK (atype := .byte) S.1 S.2.1 (S.2.2.2.2 _ qa) rfl d rfl (fun h => by rw [← iI_0, iI_lt (by omega) (by omega)] at h; omega) hz2 (by show z.toNat * 1 ≤ 536870912; omega) hcs.1 hcs.2 rfl fun H1 cA e1 z1 o1 hAr hNm => ?_
  have hcA : cA = G.2.2.1 1 := Option.some.inj (hNm.symm.trans (hK.K.2 1 _ rfl).2)
  subst hcA
  exact kk H.size H1 rfl e1 ⟨by omega, fun q h _ => o1 q h⟩ ⟨Nat.le_trans hS.1 (by omega), fun x h1 h2 => (o1 x (Nat.lt_of_lt_of_le h1 hS.1)).trans (hS.2.1 x h1 h2), hS.2.2⟩
theorem x_iald (S : CallFix p m c cc nL s args lw_all own) (hK : KH G s H) {a n : Nat} {f : Nat → Int32} (hq : va_at G.2.1 CL (a, .inl (G.2.2.1 0, n, .inl f)) H) {z w : Int} (hz : 0 ≤ z ∧ z < 2147483648) (hn : z < (n : Int)) (hw : f z.toNat = iI w) (d : decode cc pc = .ok (.iaload, 1)) (kk : W p l e R s m args below meth c H locs cells slots Q (F0 m (pc + 1) ls (.int (iI w) :: rest))) : W p l e R s m args below meth c H locs cells slots Q (F0 m (pc) ls (.int (iI z) :: .ref a :: rest)) :=
  va_iald S.1 S.2.1 hK.K (va_one hq) 0 0 rfl rfl (iI_in hz hn) d (by rw [iI_cl hz, hw]; exact kk)
theorem x_bald (S : CallFix p m c cc nL s args lw_all own) (hK : KH G s H) {a n : Nat} {f : Nat → Int32} (hq : va_at G.2.1 CL (a, .inl (G.2.2.1 1, n, .inl f)) H) {z w : Int} (hz : 0 ≤ z ∧ z < 2147483648) (hn : z < (n : Int)) (hw : f z.toNat = iI w) (d : decode cc pc = .ok (.baload, 1)) (kk : W p l e R s m args below meth c H locs cells slots Q (F0 m (pc + 1) ls (.int (iI w) :: rest))) : W p l e R s m args below meth c H locs cells slots Q (F0 m (pc) ls (.int (iI z) :: .ref a :: rest)) :=
  va_bald S.1 S.2.1 hK.K (va_one hq) 0 1 rfl rfl (iI_in hz hn) d (by rw [iI_cl hz, hw]; exact kk)
theorem x_alen (S : CallFix p m c cc nL s args lw_all own) (hK : KH G s H) {a : Nat} {x : vp_A} {cA : ClassId} (t0 : Nat) {ty : FieldType} (ht : (TY G.2.2.1)[t0]? = some (cA, ty)) (hq : va_at G.2.1 CL (a, .inl (cA, x)) H) (hn : x.1 < 2147483648) (d : decode cc pc = .ok (.arraylength, 1)) (kk : W p l e R s m args below meth c H locs cells slots Q (F0 m (pc + 1) ls (.int (iI (x.1 : Int)) :: rest))) : W p l e R s m args below meth c H locs cells slots Q (F0 m (pc) ls (.ref a :: rest)) :=
  va_alen S.1 S.2.1 hK.K (va_one hq) 0 t0 rfl ht (iI_nat hn) d kk
theorem x_iast (S : CallFix p m c cc nL s args lw_all own) (hK : KH G s H) {a n : Nat} {f : Nat → Int32} (hq : va_at G.2.1 CL (a, .inl (G.2.2.1 0, n, .inl f)) H) {z w : Int} (hz : 0 ≤ z ∧ z < 2147483648) (hn : z < (n : Int)) (hS : va_S A H0 H locs) (hAa : A a) (d : decode cc pc = .ok (.iastore, 1))
    (kk : ∀ (H1 : Heap) (locs1 : List Loc), va_at G.2.1 CL (a, .inl (G.2.2.1 0, n, .inl (upd f z.toNat (iI w)))) H1 → Keep (fun q => q = a) H H1 → H1.size = H.size → va_S A H0 H1 locs1 → W p l e R s m args below meth c H1 locs1 cells slots Q (F0 m (pc + 1) ls (rest))) : W p l e R s m args below meth c H locs cells slots Q (F0 m (pc) ls (.int (iI w) :: .int (iI z) :: .ref a :: rest)) := by
  refine W.iast S.1 S.2.1 hq ((hK.K.2 0 _ rfl).1 n (fun j => .int (f j))) (fun q => by cases q) (by show ¬ (iI z < 0 ∨ (arrV _ _ _).slots.size ≤ _); rw [arrV_size]; exact iI_in hz hn) rfl rfl d fun H1 e z1 oq => ?_
  refine kk H1 _ ?_ ⟨Nat.le_of_eq z1.symm, fun q _ hne => oq q hne⟩ z1 (hS.put z1 oq hAa)
  show H1[a]? = some (vp_cell _ _)
  rw [e, vp_cell_i, vp_cell_i, arrV_store, iI_cl hz]
  congr 2
  funext q
  by_cases h9 : q = z.toNat
  · subst h9
    simp [updV, upd]
  · simp [updV, upd, h9]
end XW
theorem asgA (vm : Vm) (n : Nat) (c : ClassId) : vm.assignableAux (n + 1) c c = true := by simp only [Vm.assignableAux, beq_self_eq_true, Bool.true_or]
section XA
variable {p : Program} {l : Launch} {e : Env} {R : Room} {s : State} {m : MethodId} {args : Array Value} {below : List Frame} {meth : Method} {c : Code} {H : Heap} {locs : List Loc} {cells slots : Nat} {Q : State → Prop}
variable {cc : ByteArray} {pc : Nat} {ls : Array Slot} {rest : List Value} {G : GG} {own : String} {nL : Nat} {A : Nat → Prop} {H0 : Heap}
theorem KH.overI {a : Array Value} (h : KH G s H) : (Cond.arrayOver (.array .int)).before a s = true := over_moved h.2.1.alike (h.1.1 _ q1138)
theorem KH.overN {a : Array Value} (h : KH G s H) : (Cond.arrayOver (.object "Cubequarry$Num")).before a s = true := Cond.arrayOver_alike h.2.1.alike (h.1.1 _ q79)
theorem x_aald (S : CallFix p m c cc nL s args lw_all own) (hK : KH G s H) {a n : Nat} {cA : ClassId} {f : Nat → Option Nat} {v : Value} (t0 : Nat) {ty : FieldType} (ht : (TY G.2.2.1)[t0]? = some (cA, ty)) (hr : ty.isReference = true) (hq : va_at G.2.1 CL (a, .inl (cA, n, .inr (.inr (.inr (.inr f))))) H) {z : Int} (hz : 0 ≤ z ∧ z < 2147483648) (hn : z < (n : Int)) (hv : va_rf (f z.toNat) = v) (d : decode cc pc = .ok (.aaload, 1)) (kk : W p l e R s m args below meth c H locs cells slots Q (F0 m (pc + 1) ls (v :: rest))) : W p l e R s m args below meth c H locs cells slots Q (F0 m (pc) ls (.int (iI z) :: .ref a :: rest)) := by
  have hlt : (iI z).toNatClampNeg < n := by rw [iI_cl hz]; omega
  exact W.aald (v := v) (ty := ty) S.1 S.2.1 hq ((hK.K.2 t0 _ ht).1 n (fun j => va_rf (f j))) hr (fun q => by cases q) (by show ¬ (iI z < 0 ∨ (arrV _ _ _).slots.size ≤ _); rw [arrV_size]; exact iI_in hz hn) (by show (arrV _ _ _).slots[_]? = _; rw [arrV_read _ _ hlt, iI_cl hz, hv]) rfl rfl d kk
theorem x_aastI (S : CallFix p m c cc nL s args lw_all own) (hK : KH G s H) {a n : Nat} {f : Nat → Option Nat} (hq : va_at G.2.1 CL (a, .inl (G.2.2.1 3, n, .inr (.inr (.inr (.inr f))))) H) {v : Nat} {x : vp_A} (hv : va_at G.2.1 CL (v, .inl (G.2.2.1 0, x)) H) {z : Int} (hz : 0 ≤ z ∧ z < 2147483648) (hn : z < (n : Int)) (hS : va_S A H0 H locs) (hAa : A a) (d : decode cc pc = .ok (.aastore, 1))
    (kk : ∀ (H1 : Heap) (locs1 : List Loc), va_at G.2.1 CL (a, .inl (G.2.2.1 3, n, .inr (.inr (.inr (.inr (va_up f z.toNat (some v))))))) H1 → Keep (fun q => q = a) H H1 → H1.size = H.size → va_S A H0 H1 locs1 → W p l e R s m args below meth c H1 locs1 cells slots Q (F0 m (pc + 1) ls (rest))) : W p l e R s m args below meth c H locs cells slots Q (F0 m (pc) ls (.ref v :: .int (iI z) :: .ref a :: rest)) := by
  obtain ⟨comp, cA, kA, hcomp, hidx, hkA, hkindA, hnameA⟩ := arrayOverA_spec (hK.overI (a := #[]))
  have e3 : G.2.2.1 3 = cA := Option.some.inj (((hK.K.2 3 _ rfl).2 : s.vm.findClass _ = some _).symm.trans hnameA)
  have e0 : comp = G.2.2.1 0 := Option.some.inj (hcomp.symm.trans (hK.K.2 0 _ rfl).2)
  subst e0
  obtain ⟨-, kI, hkI, compI, hkindI⟩ := (hK.K.2 0 _ rfl).1 0 (fun _ => .null)
  have hvm : ∀ y : vp_A, (vp_cell (G.2.2.1 0) y).vm = .none ∧ (vp_cell (G.2.2.1 0) y).cls = G.2.2.1 0 := by
    intro y
    obtain ⟨n9, f9 | f9 | f9 | f9 | f9⟩ := y <;> exact ⟨rfl, rfl⟩
  have hlt : (iI z).toNatClampNeg < n := by rw [iI_cl hz]; omega
  refine W.aast S.1 S.2.1 hq (fun q h => by cases h) (fun h => by cases h) (by show s.vm.classes[G.2.2.1 3]? = _; rw [e3]; exact hkA) hkindA rfl hkI ⟨fun h => by rw [← iI_0, iI_lt (by omega) (by omega)] at h; omega, by show _ < (arrV _ _ _).slots.size; rw [arrV_size]; exact hlt⟩ hv (fun q h => by rw [(hvm x).1] at h; cases h) (by rw [(hvm x).2]; exact hkI) (by rw [(hvm x).2]; exact asgA s.vm 255 _) rfl rfl d fun H1 e z1 oq => ?_
  refine kk H1 _ ?_ ⟨Nat.le_of_eq z1.symm, fun q _ hne => oq q hne⟩ z1 (hS.put z1 oq hAa)
  show H1[a]? = some (vp_cell _ _)
  rw [e, vp_cell_q, vp_cell_q, arrV_store, iI_cl hz]
  congr 2
  funext q
  by_cases h9 : q = z.toNat
  · subst h9
    simp [updV, va_up, va_rf]
  · simp [updV, va_up, h9]
theorem x_aastN (S : CallFix p m c cc nL s args lw_all own) (hK : KH G s H) {a n : Nat} {f : Nat → Option Nat} (hq : va_at G.2.1 CL (a, .inl (G.2.2.1 2, n, .inr (.inr (.inr (.inr f))))) H) {v : Nat} {vs : List Value} (hv : va_at G.2.1 CL (v, .inr (0, vs)) H) {z : Int} (hz : 0 ≤ z ∧ z < 2147483648) (hn : z < (n : Int)) (hS : va_S A H0 H locs) (hAa : A a) (d : decode cc pc = .ok (.aastore, 1))
    (kk : ∀ (H1 : Heap) (locs1 : List Loc), va_at G.2.1 CL (a, .inl (G.2.2.1 2, n, .inr (.inr (.inr (.inr (va_up f z.toNat (some v))))))) H1 → Keep (fun q => q = a) H H1 → H1.size = H.size → va_S A H0 H1 locs1 → W p l e R s m args below meth c H1 locs1 cells slots Q (F0 m (pc + 1) ls (rest))) : W p l e R s m args below meth c H locs cells slots Q (F0 m (pc) ls (.ref v :: .int (iI z) :: .ref a :: rest)) := by
  have hlt : (iI z).toNatClampNeg < n := by rw [iI_cl hz]; omega
  obtain ⟨r', hr', cellV, g1, g2, g3, -⟩ := hv
  have hcls := (hK.K.1 0 _ rfl).2
  obtain ⟨kA, comp, k1, k2, k3, -⟩ := (hK.K.2 2 _ rfl).2
  have hcomp : comp = G.2.1.1 0 := Option.some.inj (k3.symm.trans hcls.1)
  subst hcomp
  obtain ⟨kC, hkC, -⟩ := hcls.2
  refine W.aast S.1 S.2.1 hq (fun q h => by cases h) (fun h => by cases h) k1 k2 rfl hkC ⟨fun h => by rw [← iI_0, iI_lt (by omega) (by omega)] at h; omega, by show _ < (arrV _ _ _).slots.size; rw [arrV_size]; exact hlt⟩ g1 (fun q h => by rw [g3] at h; cases h) (by rw [g2]; exact hkC) (by rw [g2]; exact va_assign hcls) rfl rfl d fun H1 e z1 oq => ?_
  refine kk H1 _ ?_ ⟨Nat.le_of_eq z1.symm, fun q _ hne => oq q hne⟩ z1 (hS.put z1 oq hAa)
  show H1[a]? = some (vp_cell _ _)
  rw [e, vp_cell_q, vp_cell_q, arrV_store, iI_cl hz]
  congr 2
  funext q
  by_cases h9 : q = z.toNat
  · subst h9
    simp [updV, va_up, va_rf]
  · simp [updV, va_up, h9]
theorem x_anewI (S : CallFix p m c cc nL s args lw_all own) (hK : KH G s H) {index : Nat} (qc : Cond.classLink own index "[I" ∈ lw_all) {z : Int} (hz : 0 ≤ z ∧ z < 100000000) (hcs : cells + 1 ≤ R.cells ∧ slots + z.toNat ≤ R.slots) (hS : va_S A H0 H locs) (d : decode cc pc = .ok (.anewarray index, 3))
    (kk : ∀ (a : Nat) (H1 : Heap), a = H.size → va_at G.2.1 CL (a, .inl (G.2.2.1 3, z.toNat, .inr (.inr (.inr (.inr (fun _ => none)))))) H1 → Keep noW H H1 → va_S A H0 H1 locs → W p l e R s m args below meth c H1 locs (cells + 1) (slots + z.toNat) Q (F0 m (pc + 3) ls (.ref a :: rest))) : W p l e R s m args below meth c H locs cells slots Q (F0 m (pc) ls (.int (iI z) :: rest)) := by
  have hz2 : (iI z).toNatClampNeg = z.toNat := iI_cl (by omega)
  refine W.anewA (t := .int) S.1 S.2.1 S.2.2.2.1 (S.2.2.2.2 _ qc) hK.overI rfl d rfl (fun h => by rw [← iI_0, iI_lt (by omega) (by omega)] at h; omega) (by rw [hz2]; omega) hcs.1 (by rw [hz2]; exact hcs.2) fun cA kA comp f1 f2 f3 f4 => ?_
  have hcA : cA = G.2.2.1 3 := Option.some.inj (f1.symm.trans ((hK.K.2 3 _ rfl).2 : s.vm.findClass _ = some _))
  subst hcA
  rw [hz2]
  generalize hH1 : H.push ({ cls := (G.2.2.1 3), slots := Array.replicate z.toNat .null, vm := .none } : Cell) = H1
  have z1 : H1.size = H.size + 1 := by rw [← hH1, Array.size_push]
  have e1 : H1[H.size]? = some (arrV (G.2.2.1 3) z.toNat (fun _ => .null)) := by rw [← hH1, Array.getElem?_push_size, ← arrV_new]
  have o1 : ∀ q : Nat, q < H.size → H1[q]? = H[q]? := fun q hq => by rw [← hH1, Array.getElem?_push, if_neg (Nat.ne_of_lt hq)]
  refine kk H.size H1 rfl ?_ ⟨by omega, fun q h _ => o1 q h⟩ ⟨Nat.le_trans hS.1 (by omega), fun x h1 h2 => (o1 x (Nat.lt_of_lt_of_le h1 hS.1)).trans (hS.2.1 x h1 h2), hS.2.2⟩
  show H1[H.size]? = some (vp_cell _ _)
  rw [vp_cell_q]
  exact e1
theorem x_anewN (S : CallFix p m c cc nL s args lw_all own) (hK : KH G s H) {index : Nat} (qc : Cond.classLink own index "Cubequarry$Num" ∈ lw_all) {z : Int} (hz : 0 ≤ z ∧ z < 100000000) (hcs : cells + 1 ≤ R.cells ∧ slots + z.toNat ≤ R.slots) (hS : va_S A H0 H locs) (d : decode cc pc = .ok (.anewarray index, 3))
    (kk : ∀ (a : Nat) (H1 : Heap), a = H.size → va_at G.2.1 CL (a, .inl (G.2.2.1 2, z.toNat, .inr (.inr (.inr (.inr (fun _ => none)))))) H1 → Keep noW H H1 → va_S A H0 H1 locs → W p l e R s m args below meth c H1 locs (cells + 1) (slots + z.toNat) Q (F0 m (pc + 3) ls (.ref a :: rest))) : W p l e R s m args below meth c H locs cells slots Q (F0 m (pc) ls (.int (iI z) :: rest)) := by
  have hz2 : (iI z).toNatClampNeg = z.toNat := iI_cl (by omega)
  refine W.anew (C := "Cubequarry$Num") S.1 S.2.1 S.2.2.2.1 (S.2.2.2.2 _ qc) hK.overN rfl d rfl (fun h => by rw [← iI_0, iI_lt (by omega) (by omega)] at h; omega) (by rw [hz2]; omega) hcs.1 (by rw [hz2]; exact hcs.2) fun cA kA comp f1 f2 f3 f4 => ?_
  have hcA : cA = G.2.2.1 2 := by
    obtain ⟨kA9, comp9, k1, k2, k3, k4⟩ := (hK.K.2 2 _ rfl).2
    exact Option.some.inj (f1.symm.trans k4)
  subst hcA
  rw [hz2]
  generalize hH1 : H.push ({ cls := (G.2.2.1 2), slots := Array.replicate z.toNat .null, vm := .none } : Cell) = H1
  have z1 : H1.size = H.size + 1 := by rw [← hH1, Array.size_push]
  have e1 : H1[H.size]? = some (arrV (G.2.2.1 2) z.toNat (fun _ => .null)) := by rw [← hH1, Array.getElem?_push_size, ← arrV_new]
  have o1 : ∀ q : Nat, q < H.size → H1[q]? = H[q]? := fun q hq => by rw [← hH1, Array.getElem?_push, if_neg (Nat.ne_of_lt hq)]
  refine kk H.size H1 rfl ?_ ⟨by omega, fun q h _ => o1 q h⟩ ⟨Nat.le_trans hS.1 (by omega), fun x h1 h2 => (o1 x (Nat.lt_of_lt_of_le h1 hS.1)).trans (hS.2.1 x h1 h2), hS.2.2⟩
  show H1[H.size]? = some (vp_cell _ _)
  rw [vp_cell_q]
  exact e1
end XA

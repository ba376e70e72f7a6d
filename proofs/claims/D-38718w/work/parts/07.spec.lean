/-! ===== the mathematical picture: rows of kind, eighths, 1 if below ===== -/
abbrev Row : Type := Int × Int × Int
abbrev ofSet (t : Int) : Prop := (-65535 ≤ t ∧ t ≤ 65535) ∨ ((-524280 ≤ t ∧ t ≤ 524280) ∧ t % 8 = 0)
abbrev zeroR (r : Row) : Prop := r.1 = 0 ∧ r.2.1 = 0
abbrev alikeR (a b : Row) : Prop := a.1 = b.1 ∧ a.2.1 = b.2.1 ∧ a.2.2 = b.2.2
abbrev bRow (r : Row) : Prop := 0 ≤ r.1 ∧ r.1 ≤ 4 ∧ -524280 ≤ r.2.1 ∧ r.2.1 ≤ 524280 ∧ 0 ≤ r.2.2 ∧ r.2.2 ≤ 1
def keyR (r : Row) : Int := if r.1 = 1 then (if r.2.2 = 1 then -9223372036854775808 else 9223372036854775807) else if r.1 = 0 ∨ r.1 = 3 then r.2.1 * r.2.1 * r.2.1 else 64 * r.2.1
abbrev nearR (a b : Row) : Prop := a.1 ≠ b.1 ∧ a.1 ≠ 1 ∧ b.1 ≠ 1 ∧ keyR a = keyR b
abbrev aheadR (a b : Row) : Prop := (zeroR a ∧ zeroR b ∧ b.2.2 < a.2.2) ∨ (¬ (zeroR a ∧ zeroR b) ∧ keyR a < keyR b)
theorem mulB {a b A B : Int} (ha : -A ≤ a ∧ a ≤ A) (hb : -B ≤ b ∧ b ≤ B) : -(A * B) ≤ a * b ∧ a * b ≤ A * B := by
  have h1 : a.natAbs ≤ A.toNat := by omega
  have h2 : b.natAbs ≤ B.toNat := by omega
  have h3 : (a * b).natAbs ≤ A.toNat * B.toNat := by rw [Int.natAbs_mul]; exact Nat.mul_le_mul h1 h2
  have h4 : ((A.toNat * B.toNat : Nat) : Int) = A * B := by rw [Int.natCast_mul, Int.toNat_of_nonneg (by omega), Int.toNat_of_nonneg (by omega)]
  omega
theorem cubeB {a A : Int} (ha : -A ≤ a ∧ a ≤ A) : -(A * A * A) ≤ a * a * a ∧ a * a * a ≤ A * A * A := mulB (mulB ha ha) ha
theorem keyR_r {r : Row} (h : bRow r) : -9223372036854775808 ≤ keyR r ∧ keyR r ≤ 9223372036854775807 := by
  have h1 := cubeB (a := r.2.1) (A := 524280) (by omega)
  unfold keyR
  split
  · split <;> omega
  · split <;> omega
theorem keyR_in {r : Row} (h : bRow r) (h1 : r.1 ≠ 1) : -9223372036854775808 < keyR r ∧ keyR r < 9223372036854775807 := by
  have h1 := cubeB (a := r.2.1) (A := 524280) (by omega)
  unfold keyR
  split
  · split <;> omega
  · split <;> omega
theorem keyR_1 {r : Row} (h : r.1 = 1) (h2 : r.2.2 = 1) : keyR r = -9223372036854775808 := by unfold keyR; rw [if_pos h, if_pos h2]
theorem keyR_1' {r : Row} (h : r.1 = 1) (h2 : r.2.2 ≠ 1) : keyR r = 9223372036854775807 := by unfold keyR; rw [if_pos h, if_neg h2]
theorem keyR_c {r : Row} (h : r.1 = 0 ∨ r.1 = 3) : keyR r = r.2.1 * r.2.1 * r.2.1 := by unfold keyR; rw [if_neg (by omega), if_pos h]
theorem keyR_l {r : Row} (h : r.1 ≠ 1) (h2 : ¬ (r.1 = 0 ∨ r.1 = 3)) : keyR r = 64 * r.2.1 := by unfold keyR; rw [if_neg h, if_neg h2]
theorem sqN (a : Int) : 0 ≤ a * a := by
  have h : ((a.natAbs * a.natAbs : Nat) : Int) = a * a := Int.natAbs_mul_self
  omega
/-- cubes rise -/
theorem cube_lt {a b : Int} (h : a < b) : a * a * a < b * b * b := by
  obtain ⟨d, hd⟩ : ∃ d : Int, d = b - a := ⟨_, rfl⟩
  have hb : b = a + d := by omega
  have h1 : 0 ≤ (2 * a + d) * (2 * a + d) := sqN _
  have h2 : 0 < d * d := Int.mul_pos (by omega) (by omega)
  have h3 : 0 < d * (3 * ((2 * a + d) * (2 * a + d)) + d * d) := Int.mul_pos (by omega) (by omega)
  have h4 : d * (3 * ((2 * a + d) * (2 * a + d)) + d * d) = 4 * ((a + d) * (a + d) * (a + d) - a * a * a) := by grind
  rw [hb]
  omega
theorem cube_inj {a b : Int} (h : a * a * a = b * b * b) : a = b := by
  rcases Int.lt_trichotomy a b with q | q | q
  · have := cube_lt q; omega
  · exact q
  · have := cube_lt q; omega
theorem cube_le {a b : Int} (h : a ≤ b) : a * a * a ≤ b * b * b := by
  rcases Int.lt_or_eq_of_le h with q | q
  · have := cube_lt q; omega
  · rw [q]; exact Int.le_refl _
theorem cube_lt' {a b : Int} (h : a * a * a < b * b * b) : a < b := by
  rcases Int.lt_or_le a b with q | q
  · exact q
  · have := cube_le q; omega
/-- the a from -80 to 80 whose cube is t; 1000000 without one -/
def rootZ (t : Int) : Int := match (List.range 161).find? (fun (i : Nat) => ((i : Int) - 80) * ((i : Int) - 80) * ((i : Int) - 80) == t) with
  | some i => (i : Int) - 80
  | none => 1000000
theorem rootZ_some {t a : Int} (h1 : -80 ≤ a ∧ a ≤ 80) (h : a * a * a = t) : rootZ t = a := by
  unfold rootZ
  split
  · rename_i i hi
    have h2 := List.find?_some hi
    simp only [beq_iff_eq] at h2
    exact cube_inj (by rw [h2, h])
  · rename_i hn
    have h3 := List.find?_eq_none.mp hn (a + 80).toNat (List.mem_range.mpr (by omega))
    have h4 : (((a + 80).toNat : Nat) : Int) - 80 = a := by omega
    simp only [h4, h, beq_self_eq_true] at h3
    exact absurd trivial h3
theorem rootZ_none {t : Int} (h : ∀ a : Int, -80 ≤ a → a ≤ 80 → a * a * a ≠ t) : rootZ t = 1000000 := by
  unfold rootZ
  split
  · rename_i i hi
    have h2 := List.find?_some hi
    have h3 := List.mem_range.mp (List.mem_of_find?_eq_some hi)
    simp only [beq_iff_eq] at h2
    exact absurd h2 (h _ (by omega) (by omega))
  · rfl
theorem rootZ_or (t : Int) : (rootZ t = 1000000 ∧ ∀ a : Int, -80 ≤ a → a ≤ 80 → a * a * a ≠ t) ∨ ((-80 ≤ rootZ t ∧ rootZ t ≤ 80) ∧ rootZ t * rootZ t * rootZ t = t) := by
  by_cases h : ∃ a : Int, (-80 ≤ a ∧ a ≤ 80) ∧ a * a * a = t
  · obtain ⟨a, h1, h2⟩ := h
    rw [rootZ_some h1 h2]
    exact Or.inr ⟨h1, h2⟩
  · have h1 : ∀ a : Int, -80 ≤ a → a ≤ 80 → a * a * a ≠ t := fun a a1 a2 a3 => h ⟨a, ⟨a1, a2⟩, a3⟩
    exact Or.inl ⟨rootZ_none h1, h1⟩
theorem rootZ_r (t : Int) : -80 ≤ rootZ t ∧ rootZ t ≤ 1000000 := by
  rcases rootZ_or t with h | h <;> omega
abbrev mk (k t : Int) : Row := (k, t, b2i (t < 0))
def ifSet (k t : Int) : Option Row := if ofSet t then some (mk k t) else none
def rootR (k t : Int) : Option Row := if k = 3 then some (mk 4 t) else if k ≠ 0 then none else if rootZ t = 1000000 then some (mk 2 t) else some (mk 0 (4 * rootZ t))
def cubR (k t : Int) : Option Row := if k = 2 then some (mk 3 t) else if k ≠ 0 ∨ t % 4 ≠ 0 then none else ifSet 0 ((t / 4) * (t / 4) * (t / 4))
/-- what becomes of a row -/
def becomeR (r : Row) (how : Int) : Option Row :=
  if r.1 = 1 ∨ zeroR r then some r
  else if how = 1 then rootR r.1 r.2.1
  else if how = 2 then cubR r.1 r.2.1
  else if how = 3 then (if r.1 = 0 then ifSet 0 (2 * r.2.1) else if r.1 = 2 then ifSet 2 (8 * r.2.1) else none)
  else if how = 4 then (if r.1 = 0 ∧ r.2.1 % 2 = 0 then ifSet 0 (r.2.1 / 2) else if r.1 = 2 ∧ r.2.1 % 8 = 0 then ifSet 2 (r.2.1 / 8) else none)
  else if how = 5 then (if r.1 = 0 ∨ r.1 = 3 then ifSet r.1 (8 * r.2.1) else none)
  else none
def ofR (r : Row) : Int := if r.1 = 1 then (if r.2.2 = 1 then -1000000 else 1000000) else r.2.1
/-! the heap's picture of rows and of the reference -/
def r3 (r : Row) (j : Nat) : Int := if j = 0 then r.1 else if j = 1 then r.2.1 else r.2.2
abbrev RowAt (G : GG) (a : Nat) (r : Row) (H : Heap) : Prop := va_at G.2.1 CL (a, .inl (G.2.2.1 0, 3, .inl (fun j => iI (r3 r j)))) H
/-- an int array just being filled -/
abbrev IArr (G : GG) (a : Nat) (n : Nat) (f : Nat → Int32) (H : Heap) : Prop := va_at G.2.1 CL (a, .inl (G.2.2.1 0, n, .inl f)) H
abbrev MdAt (G : GG) (a : Nat) (th ac no kn : Int) (mc : Nat) (H : Heap) : Prop := va_at G.2.1 CL (a, .inr (2, [.int (iI th), .int (iI ac), .int (iI no), .int (iI kn), .ref mc])) H
abbrev QArr (G : GG) (a : Nat) (rb : Nat → Nat) (H : Heap) : Prop := va_at G.2.1 CL (a, .inl (G.2.2.1 3, 8, .inr (.inr (.inr (.inr (fun j => some (rb j))))))) H
def Rows (G : GG) (rb : Nat → Nat) (c : Nat → Row) (H : Heap) : Prop := ∀ k : Nat, k < 8 → RowAt G (rb k) (c k) H
theorem Rows.keep {G : GG} {rb : Nat → Nat} {c : Nat → Row} {H H1 : Heap} {W0 : Nat → Prop} (h : Rows G rb c H) (k : Keep W0 H H1) (hw : ∀ j, j < 8 → ¬ W0 (rb j)) : Rows G rb c H1 := fun j hj => (h j hj).keep k (hw j hj)
theorem Rows.ext {G : GG} {rb : Nat → Nat} {c : Nat → Row} {H H1 : Heap} (h : Rows G rb c H) (k : Keep noW H H1) : Rows G rb c H1 := h.keep k (fun _ _ => id)
theorem arrV_c {cA : ClassId} {n : Nat} {f g : Nat → Value} (h : ∀ j, j < n → f j = g j) : arrV cA n f = arrV cA n g := by
  unfold arrV
  congr 1
  apply Array.ext
  · simp
  · intro i h1 h2
    simp at h1
    simp [h i h1]
theorem ia_of {D : va_G} {cl : List vw_C} {a n : Nat} {cA : ClassId} {f g : Nat → Int32} {H : Heap} (h : va_at D cl (a, .inl (cA, n, .inl f)) H) (e : ∀ j, j < n → f j = g j) : va_at D cl (a, .inl (cA, n, .inl g)) H := by
  show H[a]? = some (vp_cell cA (n, .inl g))
  rw [vp_cell_i, ← arrV_c (f := fun j => .int (f j)) (fun j hj => by rw [e j hj])]
  exact h
theorem row_of {G : GG} {a : Nat} {k t b : Int} {H : Heap} (h : IArr G a 3 (upd (upd (upd (fun _ => 0) (0 : Int).toNat (iI k)) (1 : Int).toNat (iI t)) (2 : Int).toNat (iI b)) H) : RowAt G a (k, t, b) H := by
  refine ia_of h (fun j hj => ?_)
  match j, hj with
  | 0, _ => rfl
  | 1, _ => rfl
  | 2, _ => rfl
def RowO (G : GG) (x : Option Row) (rv : Option Value) (H : Heap) : Prop := (∃ (r : Row) (q : Nat), x = some r ∧ rv = some (.ref q) ∧ RowAt G q r H) ∨ (x = none ∧ rv = some .null)
theorem RowO.s {G : GG} {x : Option Row} {r : Row} {q : Nat} {H : Heap} (e : x = some r) (h : RowAt G q r H) : RowO G x (some (.ref q)) H := Or.inl ⟨r, q, e, rfl, h⟩
theorem RowO.n {G : GG} {x : Option Row} {H : Heap} (e : x = none) : RowO G x (some .null) H := Or.inr ⟨e, rfl⟩
theorem RowO.c {G : GG} {x y : Option Row} {rv : Option Value} {H : Heap} (e : x = y) (h : RowO G x rv H) : RowO G y rv H := e ▸ h
/-- the whole part of a positive number's cube root -/
theorem cub_ex (n : Nat) : ∃ m : Nat, m * m * m ≤ n ∧ n < (m + 1) * (m + 1) * (m + 1) := by
  induction n with
  | zero => exact ⟨0, by decide, by decide⟩
  | succ n ih =>
    obtain ⟨m, h1, h2⟩ := ih
    rcases Nat.lt_or_ge (n + 1) ((m + 1) * (m + 1) * (m + 1)) with h | h
    · exact ⟨m, by omega, h⟩
    · refine ⟨m + 1, h, ?_⟩
      have h3 := cube_lt (a := ((m + 1 : Nat) : Int)) (b := ((m + 1 + 1 : Nat) : Int)) (by omega)
      have h4 : (m + 1) * (m + 1) * (m + 1) < (m + 1 + 1) * (m + 1 + 1) * (m + 1 + 1) := by
        have e1 : (((m + 1) * (m + 1) * (m + 1) : Nat) : Int) = ((m + 1 : Nat) : Int) * ((m + 1 : Nat) : Int) * ((m + 1 : Nat) : Int) := by rw [Int.natCast_mul, Int.natCast_mul]
        have e2 : (((m + 1 + 1) * (m + 1 + 1) * (m + 1 + 1) : Nat) : Int) = ((m + 1 + 1 : Nat) : Int) * ((m + 1 + 1 : Nat) : Int) * ((m + 1 + 1 : Nat) : Int) := by rw [Int.natCast_mul, Int.natCast_mul]
        omega
      omega
noncomputable def cubesZ (n : Int) : Int := Classical.epsilon (fun m : Int => 0 ≤ m ∧ (m = 0 ∨ m * m * m ≤ n) ∧ n < (m + 1) * (m + 1) * (m + 1))
theorem cubesZ_ex (n : Int) : ∃ m : Int, 0 ≤ m ∧ (m = 0 ∨ m * m * m ≤ n) ∧ n < (m + 1) * (m + 1) * (m + 1) := by
  rcases Int.lt_or_le n 1 with h | h
  · exact ⟨0, by omega, Or.inl rfl, by omega⟩
  · obtain ⟨m, h1, h2⟩ := cub_ex n.toNat
    refine ⟨m, by omega, Or.inr ?_, ?_⟩
    · have e1 : ((m * m * m : Nat) : Int) = (m : Int) * m * m := by rw [Int.natCast_mul, Int.natCast_mul]
      omega
    · have e2 : (((m + 1) * (m + 1) * (m + 1) : Nat) : Int) = ((m : Int) + 1) * ((m : Int) + 1) * ((m : Int) + 1) := by rw [Int.natCast_mul, Int.natCast_mul, Int.natCast_add]; rfl
      omega
theorem cubesZ_s (n : Int) : 0 ≤ cubesZ n ∧ (cubesZ n = 0 ∨ cubesZ n * cubesZ n * cubesZ n ≤ n) ∧ n < (cubesZ n + 1) * (cubesZ n + 1) * (cubesZ n + 1) := Classical.epsilon_spec (cubesZ_ex n)
theorem cubesZ_of {n m : Int} (h0 : 0 ≤ m) (h1 : m = 0 ∨ m * m * m ≤ n) (h2 : n < (m + 1) * (m + 1) * (m + 1)) : cubesZ n = m := by
  obtain ⟨g0, g1, g2⟩ := cubesZ_s n
  rcases Int.lt_trichotomy (cubesZ n) m with q | q | q
  · have h3 : (cubesZ n + 1) * (cubesZ n + 1) * (cubesZ n + 1) ≤ m * m * m := cube_le (by omega)
    rcases h1 with h1 | h1 <;> omega
  · exact q
  · have h3 : (m + 1) * (m + 1) * (m + 1) ≤ cubesZ n * cubesZ n * cubesZ n := cube_le (by omega)
    rcases g1 with g1 | g1 <;> omega
theorem cubesZ_r {n : Int} (h : n ≤ 100000) : 0 ≤ cubesZ n ∧ cubesZ n ≤ 46 := by
  obtain ⟨g0, g1, g2⟩ := cubesZ_s n
  refine ⟨g0, ?_⟩
  rcases Int.lt_or_le 46 (cubesZ n) with q | q
  · have h3 : 47 * 47 * 47 ≤ cubesZ n * cubesZ n * cubesZ n := cube_le (a := 47) (by omega)
    rcases g1 with g1 | g1 <;> omega
  · exact q
/-- z is a cube above 0 -/
abbrev isCub (z : Int) : Prop := cubesZ z ≠ cubesZ (z - 1)
theorem isCub_iff {z : Int} (h : 1 ≤ z) : isCub z ↔ ∃ c : Int, c * c * c = z := by
  obtain ⟨g0, g1, g2⟩ := cubesZ_s z
  obtain ⟨f0, f1, f2⟩ := cubesZ_s (z - 1)
  constructor
  · intro hne
    refine ⟨cubesZ z, ?_⟩
    rcases Int.lt_or_le (z - 1) (cubesZ z * cubesZ z * cubesZ z) with q | q
    · rcases g1 with g1 | g1
      · rw [g1] at q ⊢; omega
      · omega
    · exact absurd (cubesZ_of g0 (Or.inr q) (by omega)).symm hne
  · rintro ⟨c, hc⟩ he
    have hc1 : 1 ≤ c := by
      rcases Int.lt_or_le c 1 with q | q
      · have := cube_le (a := c) (b := 0) (by omega); omega
      · exact q
    have h1 : cubesZ z = c := cubesZ_of (by omega) (Or.inr (by omega)) (by have := cube_lt (a := c) (b := c + 1) (by omega); omega)
    rw [← he, h1] at f1 f2
    rcases f1 with f1 | f1 <;> omega

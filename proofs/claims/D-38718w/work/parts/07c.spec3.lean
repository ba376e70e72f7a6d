/-! ===== counting, finding, halving; answers of the acts ===== -/
def cntZ (f : Nat → Int) : Nat → Int
  | 0 => 0
  | n + 1 => cntZ f n + f n
theorem cntZ_s {f : Nat → Int} {z : Int} (h : 0 ≤ z) : cntZ f (z + 1).toNat = cntZ f z.toNat + f z.toNat := by
  rw [show (z + 1).toNat = z.toNat + 1 by omega]
  rfl
theorem cntZ_r {f : Nat → Int} (h : ∀ j, 0 ≤ f j ∧ f j ≤ 1) (n : Nat) : 0 ≤ cntZ f n ∧ cntZ f n ≤ n := by
  induction n with
  | zero => exact ⟨Int.le_refl _, Int.le_refl _⟩
  | succ n ih =>
    have h1 := h n
    show 0 ≤ cntZ f n + f n ∧ cntZ f n + f n ≤ ((n + 1 : Nat) : Int)
    omega
theorem cntZ_c {f g : Nat → Int} {n : Nat} (h : ∀ j, j < n → f j = g j) : cntZ f n = cntZ g n := by
  induction n with
  | zero => rfl
  | succ n ih =>
    show cntZ f n + f n = cntZ g n + g n
    rw [ih (fun j hj => h j (by omega)), h n (by omega)]
/-- the place found in the first n: the last one, or the first one; -1 without one -/
def fndZ (la : Prop) [Decidable la] (P : Nat → Prop) [DecidablePred P] : Nat → Int
  | 0 => -1
  | n + 1 => if P n ∧ (la ∨ fndZ la P n = -1) then (n : Int) else fndZ la P n
theorem fndZ_s {la : Prop} [Decidable la] {P : Nat → Prop} [DecidablePred P] {z : Int} (h : 0 ≤ z) : fndZ la P (z + 1).toNat = if P z.toNat ∧ (la ∨ fndZ la P z.toNat = -1) then z else fndZ la P z.toNat := by
  rw [show (z + 1).toNat = z.toNat + 1 by omega]
  show (if P z.toNat ∧ (la ∨ fndZ la P z.toNat = -1) then ((z.toNat : Nat) : Int) else fndZ la P z.toNat) = _
  rw [Int.toNat_of_nonneg h]
theorem fndZ_r {la : Prop} [Decidable la] {P : Nat → Prop} [DecidablePred P] (n : Nat) : -1 ≤ fndZ la P n ∧ fndZ la P n < n := by
  induction n with
  | zero => exact ⟨Int.le_refl _, by show (-1 : Int) < ((0 : Nat) : Int); omega⟩
  | succ n ih =>
    show -1 ≤ (if P n ∧ (la ∨ fndZ la P n = -1) then (n : Int) else fndZ la P n) ∧ (if P n ∧ (la ∨ fndZ la P n = -1) then (n : Int) else fndZ la P n) < ((n + 1 : Nat) : Int)
    split <;> omega
def lgZ (t : Int) : Int := (Nat.log2 t.natAbs : Int)
theorem lg_step {n : Nat} (h : 2 ≤ n) : Nat.log2 n = Nat.log2 (n / 2) + 1 := by rw [Nat.log2_def, if_pos h]
theorem lg_end {n : Nat} (h : n ≤ 1) : Nat.log2 n = 0 := by rw [Nat.log2_def, if_neg (by omega)]
theorem lgZ_r {t : Int} (h : -2147483648 < t ∧ t < 2147483648) : 0 ≤ lgZ t ∧ lgZ t ≤ 30 := by
  unfold lgZ
  refine ⟨by omega, ?_⟩
  by_cases h0 : t.natAbs = 0
  · rw [h0, lg_end (by omega)]; omega
  · have := (Nat.log2_lt h0 (k := 31)).mpr (by omega)
    omega
theorem lgZ_le {t : Int} (h : t ≠ 0) : 2 ^ (lgZ t).toNat ≤ t.natAbs := by
  unfold lgZ
  rw [Int.toNat_natCast]
  exact Nat.log2_self_le (by omega)
theorem lgZ_lt {t : Int} (h : t ≠ 0) : t.natAbs < 2 ^ ((lgZ t).toNat + 1) := by
  unfold lgZ
  rw [Int.toNat_natCast]
  exact Nat.lt_log2_self
/-- code, answer, acts, refusals, rows -/
abbrev Res : Type := Int × Int × Int × Int × (Nat → Row)
def comeF (ac no : Int) (c : Nat → Row) (k : Int) (x : Option Row) : Res := match x with
  | some r => (0, b2i (¬ alikeR (c k.toNat) r), ac + 1, no, va_up c k.toNat r)
  | none => (0, -9, ac, no + 1, c)
theorem comeF_s {ac no : Int} {c : Nat → Row} {k : Int} {x : Option Row} {r : Row} (e : x = some r) : comeF ac no c k x = (0, b2i (¬ alikeR (c k.toNat) r), ac + 1, no, va_up c k.toNat r) := by rw [e]; rfl
theorem comeF_n {ac no : Int} {c : Nat → Row} {k : Int} {x : Option Row} (e : x = none) : comeF ac no c k x = (0, -9, ac, no + 1, c) := by rw [e]; rfl
/-- a refusal with the code w -/
abbrev refR (w ac no : Int) (c : Nat → Row) : Res := (w, 0, ac, no, c)
theorem bRow_mk {k t : Int} (hk : 0 ≤ k ∧ k ≤ 4) (ht : -524280 ≤ t ∧ t ≤ 524280) : bRow (mk k t) := by
  have hb := b2i_r (P := t < 0)
  show 0 ≤ k ∧ k ≤ 4 ∧ -524280 ≤ t ∧ t ≤ 524280 ∧ 0 ≤ b2i (t < 0) ∧ b2i (t < 0) ≤ 1
  omega
theorem okR_mk0 {t : Int} (h : ofSet t) : okR (mk 0 t) := by
  refine Or.inl ⟨rfl, h, ?_⟩
  show (t = 0 ∧ (b2i (t < 0) = 0 ∨ b2i (t < 0) = 1)) ∨ (t ≠ 0 ∧ b2i (t < 0) = b2i (t < 0))
  by_cases h0 : t = 0
  · exact Or.inl ⟨h0, Or.inl (b2i_0 (by omega))⟩
  · exact Or.inr ⟨h0, rfl⟩
theorem okR_mk {k t : Int} (hk : 2 ≤ k ∧ k ≤ 4) (h : ofSet t) (hr : rootZ t = 1000000) : okR (mk k t) := Or.inr (Or.inr ⟨hk, h, hr, rfl⟩)
theorem rootZ_8 {t : Int} (h : rootZ t = 1000000) (ht : ofSet (8 * t)) : rootZ (8 * t) = 1000000 := by
  refine rootZ_none (fun a a1 a2 ha => ?_)
  rcases rootZ_or t with q | q
  · -- a is even
    have h1 : a % 2 = 0 := by
      rcases (show a % 2 = 0 ∨ a % 2 = 1 by omega) with z | z
      · exact z
      · obtain ⟨n, hn⟩ : ∃ n : Int, a = 2 * n + 1 := ⟨a / 2, by omega⟩
        have e : a * a * a = 2 * (4 * (n * n * n) + 6 * (n * n) + 3 * n) + 1 := by rw [hn]; grind
        omega
    obtain ⟨n, hn⟩ : ∃ n : Int, a = 2 * n := ⟨a / 2, by omega⟩
    have e : a * a * a = 8 * (n * n * n) := by rw [hn]; grind
    exact q.2 n (by omega) (by omega) (by omega)
  · omega
theorem rootZ_d8 {t : Int} (h : rootZ (8 * t) = 1000000) (ht : ofSet (8 * t)) : rootZ t = 1000000 := by
  refine rootZ_none (fun a a1 a2 ha => ?_)
  rcases rootZ_or (8 * t) with q | q
  · have e : (2 * a) * (2 * a) * (2 * a) = 8 * (a * a * a) := by grind
    have h1 : a ≤ 40 := by
      rcases Int.lt_or_le 40 a with z | z
      · have := cube_le (a := 41) (b := a) (by omega); omega
      · exact z
    have h2 : -40 ≤ a := by
      rcases Int.lt_or_le a (-40) with z | z
      · have := cube_le (a := a) (b := -41) (by omega); omega
      · exact z
    exact q.2 (2 * a) (by omega) (by omega) (by omega)
  · omega
theorem ifSet_s {k t : Int} {r : Row} (e : ifSet k t = some r) : ofSet t ∧ r = mk k t := by
  unfold ifSet at e
  split at e
  · exact ⟨by assumption, (Option.some.inj e).symm⟩
  · cases e
theorem rootR_ok {k t : Int} {r : Row} (h0 : k = 0 → ofSet t) (h3 : k = 3 → ofSet t ∧ rootZ t = 1000000) (e : rootR k t = some r) : okR r := by
  unfold rootR at e
  split at e
  · cases e
    exact okR_mk (by decide) (h3 (by assumption)).1 (h3 (by assumption)).2
  · split at e
    · cases e
    · split at e
      · cases e
        exact okR_mk (by decide) (h0 (by omega)) (by assumption)
      · cases e
        rcases rootZ_or t with q | q
        · omega
        · exact okR_mk0 (by omega)
theorem cubR_ok {k t : Int} {r : Row} (h2 : k = 2 → ofSet t ∧ rootZ t = 1000000) (e : cubR k t = some r) : okR r := by
  unfold cubR at e
  split at e
  · cases e
    exact okR_mk (by decide) (h2 (by assumption)).1 (h2 (by assumption)).2
  · split at e
    · cases e
    · obtain ⟨e1, rfl⟩ := ifSet_s e
      exact okR_mk0 e1
theorem okR_0 {r : Row} (h : okR r) (h0 : r.1 = 0) : ofSet r.2.1 := by
  rcases h with h | h | h
  · exact h.2.1
  · omega
  · omega
theorem okR_2 {r : Row} (h : okR r) (h0 : 2 ≤ r.1) : ofSet r.2.1 ∧ rootZ r.2.1 = 1000000 := by
  rcases h with h | h | h
  · omega
  · omega
  · exact ⟨h.2.1, h.2.2.1⟩
theorem becomeR_ok {a r : Row} {how : Int} (h : okR a) (e : becomeR a how = some r) : okR r := by
  unfold becomeR at e
  split at e
  · cases e; exact h
  · split at e
    · exact rootR_ok (fun z => okR_0 h z) (fun z => okR_2 h (by omega)) e
    · split at e
      · exact cubR_ok (fun z => okR_2 h (by omega)) e
      · split at e
        · split at e
          · obtain ⟨e1, rfl⟩ := ifSet_s e
            exact okR_mk0 e1
          · split at e
            · obtain ⟨e1, rfl⟩ := ifSet_s e
              exact okR_mk (by decide) e1 (rootZ_8 (okR_2 h (by omega)).2 e1)
            · cases e
        · split at e
          · split at e
            · obtain ⟨e1, rfl⟩ := ifSet_s e
              exact okR_mk0 e1
            · split at e
              · obtain ⟨e1, rfl⟩ := ifSet_s e
                have e2 := okR_2 h (by omega)
                have e3 : 8 * (a.2.1 / 8) = a.2.1 := by omega
                exact okR_mk (by decide) e1 (rootZ_d8 (by rw [e3]; exact e2.2) (by rw [e3]; exact e2.1))
              · cases e
          · split at e
            · split at e
              · obtain ⟨e1, rfl⟩ := ifSet_s e
                rename_i hk
                rcases hk with hk | hk
                · rw [hk]; exact okR_mk0 e1
                · rw [hk]; exact okR_mk (by decide) e1 (rootZ_8 (okR_2 h (by omega)).2 e1)
              · cases e
            · cases e
theorem bRow_b {k : Int} {P : Prop} [Decidable P] (hk : 0 ≤ k ∧ k ≤ 4) : bRow (k, 0, b2i P) := by
  have hb := b2i_r (P := P)
  show 0 ≤ k ∧ k ≤ 4 ∧ -524280 ≤ (0 : Int) ∧ (0 : Int) ≤ 524280 ∧ 0 ≤ b2i P ∧ b2i P ≤ 1
  omega
theorem bRow_t {a b d : Int} (h : 0 ≤ a ∧ a ≤ 4 ∧ -524280 ≤ b ∧ b ≤ 524280 ∧ 0 ≤ d ∧ d ≤ 1) : bRow (a, b, d) := h

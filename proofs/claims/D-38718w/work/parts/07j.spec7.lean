/-! ===== sorting: each row's place ===== -/
theorem inj_surj : ∀ (n : Nat) (f : Nat → Nat), (∀ j, j < n → f j < n) → (∀ i j, i < n → j < n → f i = f j → i = j) → ∀ k, k < n → ∃ j, j < n ∧ f j = k := by
  intro n
  induction n with
  | zero => intro f _ _ k hk; omega
  | succ n ih =>
    intro f h1 h2 k hk
    by_cases hn : f n = n
    · rcases Nat.lt_or_ge k n with q | q
      · obtain ⟨j, j1, j2⟩ := ih f (fun j hj => by
          have a := h1 j (by omega)
          have b : f j ≠ n := fun z => by have := h2 j n (by omega) (by omega) (by omega); omega
          omega) (fun i j hi hj => h2 i j (by omega) (by omega)) k q
        exact ⟨j, by omega, j2⟩
      · exact ⟨n, by omega, by omega⟩
    · have hv := h1 n (by omega)
      by_cases hx : ∃ j, j < n ∧ f j = n
      · obtain ⟨x, x1, x2⟩ := hx
        rcases Nat.lt_or_ge k n with q | q
        · obtain ⟨j, j1, j2⟩ := ih (fun j => if f j = n then f n else f j) (fun j hj => by
            show (if f j = n then f n else f j) < n
            split
            · omega
            · have := h1 j (by omega); omega) (fun i j hi hj he => by
            have he : (if f i = n then f n else f i) = (if f j = n then f n else f j) := he
            by_cases c1 : f i = n
            · by_cases c2 : f j = n
              · exact h2 i j (by omega) (by omega) (by omega)
              · rw [if_pos c1, if_neg c2] at he
                have := h2 n j (by omega) (by omega) he; omega
            · by_cases c2 : f j = n
              · rw [if_neg c1, if_pos c2] at he
                have := h2 i n (by omega) (by omega) he; omega
              · rw [if_neg c1, if_neg c2] at he
                exact h2 i j (by omega) (by omega) he) k q
          have j2 : (if f j = n then f n else f j) = k := j2
          by_cases c : f j = n
          · rw [if_pos c] at j2; exact ⟨n, by omega, j2⟩
          · rw [if_neg c] at j2; exact ⟨j, by omega, j2⟩
        · exact ⟨x, by omega, by omega⟩
      · obtain ⟨j, j1, j2⟩ := ih f (fun j hj => by
          have a := h1 j (by omega)
          have b : f j ≠ n := fun z => hx ⟨j, hj, z⟩
          omega) (fun i j hi hj => h2 i j (by omega) (by omega)) (f n) (by omega)
        have := h2 j n (by omega) (by omega) j2
        omega
/-- counting: a smaller set -/
theorem cntZ_le {f g : Nat → Int} {n : Nat} (h : ∀ j, j < n → f j ≤ g j) : cntZ f n ≤ cntZ g n := by
  induction n with
  | zero => exact Int.le_refl _
  | succ n ih =>
    have h1 := ih (fun j hj => h j (by omega))
    have h2 := h n (by omega)
    show cntZ f n + f n ≤ cntZ g n + g n
    omega
theorem cntZ_lt {f g : Nat → Int} {n : Nat} (h : ∀ j, j < n → f j ≤ g j) {i : Nat} (hi : i < n) (hl : f i < g i) : cntZ f n < cntZ g n := by
  induction n with
  | zero => omega
  | succ n ih =>
    show cntZ f n + f n < cntZ g n + g n
    have h2 := h n (by omega)
    rcases Nat.lt_or_ge i n with q | q
    · have h1 := ih (fun j hj => h j (by omega)) q
      omega
    · have h1 := cntZ_le (f := f) (g := g) (n := n) (fun j hj => h j (by omega))
      have : i = n := by omega
      subst this
      omega
/-- all apart: the order, and where even the cell's place -/
def ordZ (c : Nat → Row) (j : Nat) : Int := 8 * phiR (c j) + j
def plcZ (c : Nat → Row) (k : Nat) : Int := cntZ (fun j => b2i (ordZ c j < ordZ c k)) 8
theorem ordZ_inj {c : Nat → Row} {i j : Nat} (hi : i < 8) (hj : j < 8) (h : ordZ c i = ordZ c j) : i = j := by
  unfold ordZ at h
  omega
theorem plcZ_lt {c : Nat → Row} {i j : Nat} (hi : i < 8) (h : ordZ c i < ordZ c j) : plcZ c i < plcZ c j := by
  refine cntZ_lt (fun k hk => ?_) hi ?_
  · show b2i (ordZ c k < ordZ c i) ≤ b2i (ordZ c k < ordZ c j)
    by_cases q : ordZ c k < ordZ c i
    · rw [b2i_1 q, b2i_1 (by omega)]; exact Int.le_refl _
    · rw [b2i_0 q]; have := b2i_r (P := ordZ c k < ordZ c j); omega
  · show b2i (ordZ c i < ordZ c i) < b2i (ordZ c i < ordZ c j)
    rw [b2i_1 h, b2i_0 (by omega)]; omega
theorem plcZ_inj {c : Nat → Row} {i j : Nat} (hi : i < 8) (hj : j < 8) (h : plcZ c i = plcZ c j) : i = j := by
  rcases Int.lt_trichotomy (ordZ c i) (ordZ c j) with q | q | q
  · have := plcZ_lt hi q; omega
  · exact ordZ_inj hi hj q
  · have := plcZ_lt hj q; omega
theorem plcZ_r {c : Nat → Row} {i : Nat} (hi : i < 8) : 0 ≤ plcZ c i ∧ plcZ c i < 8 := by
  have h1 := cntZ_r (f := fun j => b2i (ordZ c j < ordZ c i)) (fun j => b2i_r) 8
  refine ⟨h1.1, ?_⟩
  have h2 := cntZ_lt (f := fun j => b2i (ordZ c j < ordZ c i)) (g := fun _ => 1) (n := 8) (fun j _ => b2i_r.2) hi (by show b2i (ordZ c i < ordZ c i) < 1; rw [b2i_0 (by omega)]; omega)
  exact h2
/-- the place, as the reference counts it -/
theorem plcZ_two {c : Nat → Row} (h : ∀ k : Nat, k < 8 → okR (c k)) {k : Nat} (hk : k < 8) : cntZ (fun j => b2i (aheadR (c j) (c k))) 8 + cntZ (fun j => b2i (¬ aheadR (c j) (c k) ∧ ¬ aheadR (c k) (c j))) k = plcZ c k := by
  have h0 : ∀ n, n ≤ 8 → cntZ (fun j => b2i (aheadR (c j) (c k))) n + cntZ (fun j => b2i (¬ aheadR (c j) (c k) ∧ ¬ aheadR (c k) (c j))) (min n k) = cntZ (fun j => b2i (ordZ c j < ordZ c k)) n := by
    intro n
    induction n with
    | zero => intro _; rw [show min 0 k = 0 by omega]; rfl
    | succ n ih =>
      intro hn
      have h1 := ih (by omega)
      have a1 := ahead_phi (h n (by omega)) (h k hk)
      have a2 := ahead_phi (h k hk) (h n (by omega))
      show (cntZ _ n + b2i (aheadR (c n) (c k))) + _ = cntZ _ n + b2i (ordZ c n < ordZ c k)
      rw [← h1]
      by_cases q : n < k
      · rw [show min (n + 1) k = n + 1 by omega, show min n k = n by omega]
        show (cntZ _ n + b2i (aheadR (c n) (c k))) + (cntZ _ n + b2i (¬ aheadR (c n) (c k) ∧ ¬ aheadR (c k) (c n))) = _
        by_cases c1 : phiR (c n) < phiR (c k)
        · rw [b2i_1 (a1.mpr c1), b2i_0 (fun z => z.1 (a1.mpr c1)), b2i_1 (by unfold ordZ; omega)]; omega
        · by_cases c2 : phiR (c k) < phiR (c n)
          · rw [b2i_0 (fun z => c1 (a1.mp z)), b2i_0 (fun z => z.2 (a2.mpr c2)), b2i_0 (by unfold ordZ; omega)]; omega
          · rw [b2i_0 (fun z => c1 (a1.mp z)), b2i_1 ⟨fun z => c1 (a1.mp z), fun z => c2 (a2.mp z)⟩, b2i_1 (by unfold ordZ; omega)]; omega
      · rw [show min (n + 1) k = k by omega, show min n k = k by omega]
        by_cases c1 : phiR (c n) < phiR (c k)
        · rw [b2i_1 (a1.mpr c1), b2i_1 (by unfold ordZ; omega)]; omega
        · rw [b2i_0 (fun z => c1 (a1.mp z)), b2i_0 (by unfold ordZ; omega)]; omega
  have h1 := h0 8 (by omega)
  rw [show min 8 k = k by omega] at h1
  exact h1
noncomputable def sortZ (c : Nat → Row) (k : Nat) : Row := c (Classical.epsilon (fun j : Nat => j < 8 ∧ plcZ c j = (k : Int)))
theorem sortZ_at {c : Nat → Row} {j : Nat} (hj : j < 8) : sortZ c (plcZ c j).toNat = c j := by
  have h0 := plcZ_r (c := c) hj
  have h1 : ∃ i : Nat, i < 8 ∧ plcZ c i = (((plcZ c j).toNat : Nat) : Int) := ⟨j, hj, by omega⟩
  obtain ⟨h2, h3⟩ := Classical.epsilon_spec h1
  unfold sortZ
  rw [plcZ_inj h2 hj (by rw [h3]; omega)]
theorem plcZ_ex {c : Nat → Row} {k : Nat} (hk : k < 8) : ∃ j, j < 8 ∧ (plcZ c j).toNat = k := inj_surj 8 (fun j => (plcZ c j).toNat) (fun j hj => by have := plcZ_r (c := c) hj; show (plcZ c j).toNat < 8; omega) (fun i j hi hj he => by
  have a := plcZ_r (c := c) hi
  have b := plcZ_r (c := c) hj
  have he : (plcZ c i).toNat = (plcZ c j).toNat := he
  exact plcZ_inj (c := c) hi hj (by omega)) k hk
theorem sortZ_ok {c : Nat → Row} (h : ∀ k : Nat, k < 8 → okR (c k)) : ∀ k : Nat, k < 8 → okR (sortZ c k) := by
  intro k hk
  obtain ⟨j, j1, j2⟩ := plcZ_ex (c := c) hk
  rw [← j2, sortZ_at j1]
  exact h j j1

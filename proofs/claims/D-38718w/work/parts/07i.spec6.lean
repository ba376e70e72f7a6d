/-! ===== whole rows of cells laid anew; the order as a number ===== -/
theorem MW.c {G : GG} {a mc : Nat} {th ac no kn : Int} {c c' : Nat → Row} {H : Heap} (e : c = c') (h : MW G a mc th ac no kn c H) : MW G a mc th ac no kn c' H := e ▸ h
def mixC (c d : Nat → Row) (n : Nat) : Nat → Row := fun i => if i < n then d i else c i
theorem mix_0 {c d : Nat → Row} : mixC c d 0 = c := by funext i; exact if_neg (by omega)
theorem mix_n {c d : Nat → Row} (n : Nat) : mixC c d n n = c n := if_neg (by omega)
theorem mix_up {c d : Nat → Row} {z : Int} (h : 0 ≤ z) : va_up (mixC c d z.toNat) z.toNat (d z.toNat) = mixC c d (z + 1).toNat := by
  rw [show (z + 1).toNat = z.toNat + 1 by omega]
  funext i
  unfold va_up mixC
  by_cases h1 : i = z.toNat
  · rw [if_pos h1, if_pos (by omega), h1]
  · rw [if_neg h1]
    by_cases h2 : i < z.toNat
    · rw [if_pos h2, if_pos (by omega)]
    · rw [if_neg h2, if_neg (by omega)]
def comeAllF (ac no : Int) (c d : Nat → Row) : Res := (0, cntZ (fun i => b2i (¬ alikeR (c i) (d i))) 8, ac + 1, no, mixC c d 8)
def allC (c : Nat → Row) (how : Int) (n : Nat) : Nat → Row := fun i => if i < n then (becomeR (c i) how).getD (c i) else c i
theorem all_0 {c : Nat → Row} {how : Int} : allC c how 0 = c := by funext i; exact if_neg (by omega)
theorem all_n {c : Nat → Row} {how : Int} (n : Nat) : allC c how n n = c n := if_neg (by omega)
theorem all_s {c : Nat → Row} {how : Int} {z : Int} {r : Row} (h : 0 ≤ z) (e : becomeR (c z.toNat) how = some r) : va_up (allC c how z.toNat) z.toNat r = allC c how (z + 1).toNat := by
  rw [show (z + 1).toNat = z.toNat + 1 by omega]
  funext i
  unfold va_up allC
  by_cases h1 : i = z.toNat
  · rw [if_pos h1, if_pos (by omega), h1, e]; rfl
  · rw [if_neg h1]
    by_cases h2 : i < z.toNat
    · rw [if_pos h2, if_pos (by omega)]
    · rw [if_neg h2, if_neg (by omega)]
theorem all_z {c : Nat → Row} {how : Int} {z : Int} (h : 0 ≤ z) (e : becomeR (c z.toNat) how = none) : allC c how z.toNat = allC c how (z + 1).toNat := by
  rw [show (z + 1).toNat = z.toNat + 1 by omega]
  funext i
  unfold allC
  by_cases h1 : i = z.toNat
  · rw [h1, if_neg (by omega), if_pos (by omega), e]; rfl
  · by_cases h2 : i < z.toNat
    · rw [if_pos h2, if_pos (by omega)]
    · rw [if_neg h2, if_neg (by omega)]
theorem allC_ok {c : Nat → Row} {how : Int} {n : Nat} (h : ∀ k : Nat, k < 8 → okR (c k)) : ∀ k : Nat, k < 8 → okR (allC c how n k) := by
  intro k hk
  unfold allC
  split
  · cases e : becomeR (c k) how with
    | some r => exact becomeR_ok (h k hk) e
    | none => exact h k hk
  · exact h k hk
theorem mixC_ok {c d : Nat → Row} {n : Nat} (h : ∀ k : Nat, k < 8 → okR (c k)) (h2 : ∀ k : Nat, k < 8 → okR (d k)) : ∀ k : Nat, k < 8 → okR (mixC c d n k) := by
  intro k hk
  unfold mixC
  split
  · exact h2 k hk
  · exact h k hk
/-- the order as a number -/
def phiR (r : Row) : Int := 2 * keyR r - (if zeroR r ∧ r.2.2 = 1 then 1 else 0)
theorem key_0 {r : Row} (h : okR r) : keyR r = 0 ↔ zeroR r := by
  constructor
  · intro h0
    rcases h with h | h | h
    · refine ⟨h.1, ?_⟩
      rw [keyR_c (Or.inl h.1)] at h0
      exact cube_inj (a := r.2.1) (b := 0) (by omega)
    · by_cases h2 : r.2.2 = 1
      · rw [keyR_1 h.1 h2] at h0; omega
      · rw [keyR_1' h.1 h2] at h0; omega
    · have h3 : r.2.1 = 0 := by
        by_cases h4 : r.1 = 3
        · rw [keyR_c (Or.inr h4)] at h0
          exact cube_inj (a := r.2.1) (b := 0) (by omega)
        · rw [keyR_l (by omega) (by omega)] at h0; omega
      have h5 := rootZ_some (t := 0) (a := 0) (by omega) (by omega)
      rw [h3, h5] at h
      omega
  · rintro ⟨h1, h2⟩
    rw [keyR_c (Or.inl h1), h2]; rfl
theorem ahead_phi {a b : Row} (ha : okR a) (hb : okR b) : aheadR a b ↔ phiR a < phiR b := by
  have h1 := key_0 ha
  have h2 := key_0 hb
  have h3 : a.2.2 = 0 ∨ a.2.2 = 1 := by have := okR_b ha; omega
  have h4 : b.2.2 = 0 ∨ b.2.2 = 1 := by have := okR_b hb; omega
  unfold phiR
  by_cases za : zeroR a
  · have k1 := h1.mpr za
    by_cases zb : zeroR b
    · have k2 := h2.mpr zb
      rw [k1, k2]
      constructor
      · rintro (q | q)
        · rw [if_pos ⟨za, by omega⟩, if_neg (fun z => by omega)]; omega
        · exact absurd ⟨za, zb⟩ q.1
      · intro q
        refine Or.inl ⟨za, zb, ?_⟩
        by_cases c1 : a.2.2 = 1
        · by_cases c2 : b.2.2 = 1
          · rw [if_pos ⟨za, c1⟩, if_pos ⟨zb, c2⟩] at q; omega
          · omega
        · rw [if_neg (fun z => c1 z.2)] at q
          split at q <;> omega
    · rw [if_neg (c := zeroR b ∧ b.2.2 = 1) (fun z => zb z.1)]
      have k2 : keyR b ≠ 0 := fun z => zb (h2.mp z)
      constructor
      · rintro (q | q)
        · exact absurd q.2.1 zb
        · split <;> omega
      · intro q
        refine Or.inr ⟨fun z => zb z.2, ?_⟩
        split at q <;> omega
  · rw [if_neg (c := zeroR a ∧ a.2.2 = 1) (fun z => za z.1)]
    have k1 : keyR a ≠ 0 := fun z => za (h1.mp z)
    constructor
    · rintro (q | q)
      · exact absurd q.1 za
      · split <;> omega
    · intro q
      refine Or.inr ⟨fun z => za z.1, ?_⟩
      split at q <;> omega
/-- how many are ahead of the cell (or behind it) -/
def manyZ (c : Nat → Row) (P : Prop) [Decidable P] (k : Nat) : Int := if P then cntZ (fun j => b2i (aheadR (c k) (c j))) 8 else cntZ (fun j => b2i (aheadR (c j) (c k))) 8
theorem cntZ_0 {f : Nat → Int} {n : Nat} (h : ∀ j, j < n → f j = 0) : cntZ f n = 0 := by
  induction n with
  | zero => rfl
  | succ n ih =>
    show cntZ f n + f n = 0
    rw [ih (fun j hj => h j (by omega)), h n (by omega)]; rfl
theorem most_ex (f : Nat → Int) : ∀ n : Nat, ∃ k, k < n + 1 ∧ ∀ j, j < n + 1 → f k ≤ f j := by
  intro n
  induction n with
  | zero => exact ⟨0, by omega, fun j hj => by rw [show j = 0 by omega]; exact Int.le_refl _⟩
  | succ n ih =>
    obtain ⟨k, h1, h2⟩ := ih
    rcases Int.lt_or_le (f (n + 1)) (f k) with q | q
    · refine ⟨n + 1, by omega, fun j hj => ?_⟩
      rcases Nat.lt_or_ge j (n + 1) with w | w
      · have := h2 j w; omega
      · rw [show j = n + 1 by omega]; exact Int.le_refl _
    · refine ⟨k, by omega, fun j hj => ?_⟩
      rcases Nat.lt_or_ge j (n + 1) with w | w
      · exact h2 j w
      · rw [show j = n + 1 by omega]; exact q
theorem many_ex {c : Nat → Row} (h : ∀ k : Nat, k < 8 → okR (c k)) (P : Prop) [Decidable P] : ∃ k, k < 8 ∧ manyZ c P k = 0 := by
  by_cases hP : P
  · obtain ⟨k, h1, h2⟩ := most_ex (fun j => - phiR (c j)) 7
    refine ⟨k, h1, ?_⟩
    unfold manyZ
    rw [if_pos hP]
    refine cntZ_0 (fun j hj => b2i_0 (fun z => ?_))
    have := (ahead_phi (h k h1) (h j hj)).mp z
    have := h2 j hj
    omega
  · obtain ⟨k, h1, h2⟩ := most_ex (fun j => phiR (c j)) 7
    refine ⟨k, h1, ?_⟩
    unfold manyZ
    rw [if_neg hP]
    refine cntZ_0 (fun j hj => b2i_0 (fun z => ?_))
    have := (ahead_phi (h j hj) (h k h1)).mp z
    have := h2 j hj
    omega
theorem manyZ_r {c : Nat → Row} {P : Prop} [Decidable P] (k : Nat) : 0 ≤ manyZ c P k ∧ manyZ c P k ≤ 8 := by
  unfold manyZ
  split
  · exact cntZ_r (fun j => b2i_r) 8
  · exact cntZ_r (fun j => b2i_r) 8
/-- the first cell at the end -/
def endF (c : Nat → Row) (P : Prop) [Decidable P] : Nat → Nat → Nat
  | 0, i => i
  | f + 1, i => if manyZ c P i = 0 then i else endF c P f (i + 1)
theorem endF_s {c : Nat → Row} {P : Prop} [Decidable P] {i : Nat} (h : i < 8) : endF c P (8 - i) i = if manyZ c P i = 0 then i else endF c P (8 - (i + 1)) (i + 1) := by
  rw [show 8 - i = (8 - (i + 1)) + 1 by omega]
  rfl
/-! an array of rows just being filled -/
def TArr (G : GG) (q : Nat) (P : Nat → Prop) (d : Nat → Row) (H : Heap) : Prop := ∃ f : Nat → Option Nat, va_at G.2.1 CL (q, .inl (G.2.2.1 3, 8, .inr (.inr (.inr (.inr f))))) H ∧ ∀ k, k < 8 → P k → ∃ x, f k = some x ∧ RowAt G x (d k) H
theorem TArr.lt {G : GG} {q : Nat} {P : Nat → Prop} {d : Nat → Row} {H : Heap} (h : TArr G q P d H) : q < H.size := by
  obtain ⟨f, h1, -⟩ := h
  exact h1.lt
theorem TArr.keep {G : GG} {q : Nat} {P : Nat → Prop} {d : Nat → Row} {H H1 : Heap} {a n : Nat} {x : vp_A} (h : TArr G q P d H) (k : Keep (fun z => z = a) H H1) (hx : va_at G.2.1 CL (a, .inl (G.2.2.1 3, x)) H) (hx8 : x.1 = 8) (hn : q ≠ a) : TArr G q P d H1 := by
  obtain ⟨f, h1, h2⟩ := h
  refine ⟨f, h1.keep k hn, fun j hj hp => ?_⟩
  obtain ⟨y, e, h3⟩ := h2 j hj hp
  exact ⟨y, e, h3.keep k (ne_len h3 hx (by show 3 ≠ x.1; omega))⟩
theorem TArr.ext {G : GG} {q : Nat} {P : Nat → Prop} {d : Nat → Row} {H H1 : Heap} (h : TArr G q P d H) (k : Keep noW H H1) : TArr G q P d H1 := by
  obtain ⟨f, h1, h2⟩ := h
  refine ⟨f, h1.ext k, fun j hj hp => ?_⟩
  obtain ⟨y, e, h3⟩ := h2 j hj hp
  exact ⟨y, e, h3.ext k⟩
theorem TArr.new {G : GG} {q : Nat} {d : Nat → Row} {H : Heap} (h : va_at G.2.1 CL (q, .inl (G.2.2.1 3, 8, .inr (.inr (.inr (.inr (fun _ => none)))))) H) : TArr G q (fun _ => False) d H := ⟨_, h, fun _ _ z => z.elim⟩
theorem TArr.put {G : GG} {q z v : Nat} {P : Nat → Prop} {d : Nat → Row} {f : Nat → Option Nat} {H H1 : Heap} (h : va_at G.2.1 CL (q, .inl (G.2.2.1 3, 8, .inr (.inr (.inr (.inr f))))) H) (hp : ∀ k, k < 8 → P k → ∃ x, f k = some x ∧ RowAt G x (d k) H) (k : Keep (fun z => z = q) H H1) (h1 : va_at G.2.1 CL (q, .inl (G.2.2.1 3, 8, .inr (.inr (.inr (.inr (va_up f z (some v))))))) H1) (hv : RowAt G v (d z) H) : TArr G q (fun k => P k ∨ k = z) d H1 := by
  refine ⟨_, h1, fun j hj hj2 => ?_⟩
  by_cases e : j = z
  · refine ⟨v, ?_, ?_⟩
    · rw [e, va_up_self]
    · rw [e]; exact hv.keep k (ne_len hv h (by show 3 ≠ 8; omega))
  · rcases hj2 with hj2 | hj2
    · obtain ⟨x, e1, h3⟩ := hp j hj hj2
      exact ⟨x, by rw [va_up_ne _ _ e]; exact e1, h3.keep k (ne_len h3 h (by show 3 ≠ 8; omega))⟩
    · exact absurd hj2 e
theorem TArr.c {G : GG} {q : Nat} {P P' : Nat → Prop} {d : Nat → Row} {H : Heap} (e : ∀ k, k < 8 → P' k → P k) (h : TArr G q P d H) : TArr G q P' d H := by
  obtain ⟨f, h1, h2⟩ := h
  exact ⟨f, h1, fun k hk hp => h2 k hk (e k hk hp)⟩
theorem ra_of {D : va_G} {cl : List vw_C} {a n : Nat} {cA : ClassId} {f g : Nat → Option Nat} {H : Heap} (h : va_at D cl (a, .inl (cA, n, .inr (.inr (.inr (.inr f))))) H) (e : ∀ j, j < n → f j = g j) : va_at D cl (a, .inl (cA, n, .inr (.inr (.inr (.inr g))))) H := by
  show H[a]? = some (arrV cA n (fun j => va_rf (g j)))
  rw [← arrV_c (f := fun j => va_rf (f j)) (fun j hj => by rw [e j hj])]
  exact h
theorem TArr.full {G : GG} {q : Nat} {P : Nat → Prop} {d : Nat → Row} {H : Heap} (h : TArr G q P d H) (e : ∀ k, k < 8 → P k) : ∃ rd : Nat → Nat, QArr G q rd H ∧ Rows G rd d H := by
  obtain ⟨f, h1, h2⟩ := h
  have h3 : ∀ k, k < 8 → f k = some ((f k).getD 0) ∧ RowAt G ((f k).getD 0) (d k) H := by
    intro k hk
    obtain ⟨x, e1, h4⟩ := h2 k hk (e k hk)
    rw [e1]
    exact ⟨rfl, h4⟩
  refine ⟨fun k => (f k).getD 0, ?_, fun k hk => (h3 k hk).2⟩
  refine ra_of h1 (fun j hj => (h3 j hj).1)
theorem MW.keepT {G : GG} {s : State} {a mc q : Nat} {th ac no kn : Int} {c : Nat → Row} {x : vp_A} {H H1 H' : Heap} (h : MW G a mc th ac no kn c H) (hK : KH G s H') (k : Keep (fun z => z = q) H H1) (hx : va_at G.2.1 CL (q, .inl (G.2.2.1 3, x)) H) (hx8 : x.1 = 8) (hn : mc ≠ q) : MW G a mc th ac no kn c H1 := by
  obtain ⟨rb, h1, h2, h3, h4⟩ := h
  exact ⟨rb, h1.keep k (ne_oa hK rfl rfl h1 hx), h2.keep k hn, h3.keep k (fun j hj => ne_len (h3 j hj) hx (by show 3 ≠ x.1; omega)), h4⟩
theorem MW.mlt {G : GG} {a mc : Nat} {th ac no kn : Int} {c : Nat → Row} {H : Heap} (h : MW G a mc th ac no kn c H) : mc < H.size := by
  obtain ⟨rb, h1, h2, h3, h4⟩ := h
  exact h2.lt

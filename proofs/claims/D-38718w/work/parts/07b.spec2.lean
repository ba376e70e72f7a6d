/-! ===== rows that there are; what is apart in the heap ===== -/
def okR (r : Row) : Prop := (r.1 = 0 ∧ ofSet r.2.1 ∧ ((r.2.1 = 0 ∧ (r.2.2 = 0 ∨ r.2.2 = 1)) ∨ (r.2.1 ≠ 0 ∧ r.2.2 = b2i (r.2.1 < 0)))) ∨ (r.1 = 1 ∧ r.2.1 = 0 ∧ (r.2.2 = 0 ∨ r.2.2 = 1)) ∨ ((2 ≤ r.1 ∧ r.1 ≤ 4) ∧ ofSet r.2.1 ∧ rootZ r.2.1 = 1000000 ∧ r.2.2 = b2i (r.2.1 < 0))
theorem okR_b {r : Row} (h : okR r) : bRow r := by
  have hb := b2i_r (P := r.2.1 < 0)
  rcases h with h | h | h
  · omega
  · omega
  · omega
/-- the reference with its rows -/
def MW (G : GG) (a mc : Nat) (th ac no kn : Int) (c : Nat → Row) (H : Heap) : Prop := ∃ rb : Nat → Nat, MdAt G a th ac no kn mc H ∧ QArr G mc rb H ∧ Rows G rb c H ∧ G.1.heap.size ≤ a ∧ G.1.heap.size ≤ mc
theorem MW.ext {G : GG} {a mc : Nat} {th ac no kn : Int} {c : Nat → Row} {H H1 : Heap} (h : MW G a mc th ac no kn c H) (k : Keep noW H H1) : MW G a mc th ac no kn c H1 := by
  obtain ⟨rb, h1, h2, h3, h4⟩ := h
  exact ⟨rb, h1.ext k, h2.ext k, h3.ext k, h4⟩
/-! cells of two kinds are two cells -/
theorem vp_cell_c (cA : ClassId) (x : vp_A) : (vp_cell cA x).cls = cA ∧ (vp_cell cA x).slots.size = x.1 := by
  obtain ⟨n, f | f | f | f | f⟩ := x
  · exact ⟨rfl, arrV_size _ _ _⟩
  · exact ⟨rfl, arrV_size _ _ _⟩
  · exact ⟨rfl, arrV_size _ _ _⟩
  · exact ⟨rfl, arrV_size _ _ _⟩
  · exact ⟨rfl, arrV_size _ _ _⟩
theorem ne_len {D : va_G} {cl : List vw_C} {a b : Nat} {cA cB : ClassId} {x y : vp_A} {H : Heap} (h1 : va_at D cl (a, .inl (cA, x)) H) (h2 : va_at D cl (b, .inl (cB, y)) H) (hn : x.1 ≠ y.1) : a ≠ b := by
  rintro rfl
  have h3 : vp_cell cA x = vp_cell cB y := Option.some.inj ((h1 : H[a]? = _).symm.trans h2)
  exact hn (by rw [← (vp_cell_c cA x).2, h3, (vp_cell_c cB y).2])
theorem ne_oa {G : GG} {s : State} {a b ci t : Nat} {fs : List Value} {x : vp_A} {q : vw_C} {ty : FieldType} {H H' : Heap} (hK : KH G s H') (hc : CL[ci]? = some q) (ht : (TY G.2.2.1)[t]? = some (G.2.2.1 t, ty)) (h1 : va_at G.2.1 CL (a, .inr (ci, fs)) H) (h2 : va_at G.2.1 CL (b, .inl (G.2.2.1 t, x)) H) : a ≠ b := by
  rintro rfl
  obtain ⟨r, e0, cell, e1, e2, -⟩ := h1
  have h3 : cell = vp_cell (G.2.2.1 t) x := Option.some.inj (e1.symm.trans h2)
  have h4 : G.2.1.1 ci = G.2.2.1 t := by rw [← e2, h3, (vp_cell_c _ _).1]
  obtain ⟨-, -, k, hk, hkind⟩ := hK.K.1 ci q hc
  obtain ⟨-, kA, hkA, comp, hkA2⟩ := (hK.K.2 t _ ht).1 0 (fun _ => .null)
  have hkA' : s.vm.classes[G.2.2.1 t]? = some kA := hkA
  rw [h4, hkA'] at hk
  cases hk
  rw [hkind] at hkA2
  cases hkA2
theorem ne_oo {G : GG} {s : State} {a b ci cj : Nat} {fs gs : List Value} {q r : vw_C} {H H' : Heap} (hK : KH G s H') (hc : CL[ci]? = some q) (hd : CL[cj]? = some r) (hn : q.1 ≠ r.1) (h1 : va_at G.2.1 CL (a, .inr (ci, fs)) H) (h2 : va_at G.2.1 CL (b, .inr (cj, gs)) H) : a ≠ b := by
  rintro rfl
  obtain ⟨_, _, c1, e1, e2, -⟩ := h1
  obtain ⟨_, _, c2, f1, f2, -⟩ := h2
  have h3 : c1 = c2 := Option.some.inj (e1.symm.trans f1)
  have g1 := (hK.K.1 ci q hc).2.1
  have g2 := (hK.K.1 cj r hd).2.1
  obtain ⟨k1, hk1, hn1⟩ := Vm.findClass_spec g1
  obtain ⟨k2, hk2, hn2⟩ := Vm.findClass_spec g2
  have h4 : G.2.1.1 ci = G.2.1.1 cj := by rw [← e2, h3, f2]
  rw [h4, hk2] at hk1
  cases hk1
  exact hn (hn1.symm.trans hn2)
/-- a row laid into the rows' array -/
theorem rows_put {G : GG} {mc q z : Nat} {rb : Nat → Nat} {c : Nat → Row} {r : Row} {H : Heap} (h1 : va_at G.2.1 CL (mc, .inl (G.2.2.1 3, 8, .inr (.inr (.inr (.inr (va_up (fun j => some (rb j)) z (some q))))))) H) (h2 : Rows G rb c H) (h3 : RowAt G q r H) (hz : z < 8) : ∃ rb' : Nat → Nat, QArr G mc rb' H ∧ Rows G rb' (va_up c z r) H := by
  refine ⟨va_up rb z q, ?_, fun k hk => ?_⟩
  · have e : (fun j => some (va_up rb z q j)) = va_up (fun j => some (rb j)) z (some q) := by
      funext j
      unfold va_up
      split <;> rfl
    show va_at G.2.1 CL (mc, .inl (G.2.2.1 3, 8, .inr (.inr (.inr (.inr (fun j => some (va_up rb z q j))))))) H
    rw [e]
    exact h1
  · unfold va_up
    split
    · exact h3
    · exact h2 k hk

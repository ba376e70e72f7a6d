/-! ===== int arrays that are only read (new ones, and those of the start) ===== -/
def IR (G : GG) (a n : Nat) (d : Nat → Int) (H : Heap) : Prop := ∃ cell : Cell, H[a]? = some cell ∧ G.1.isArrayOf cell .int ∧ cell.vm ≠ .unknown ∧ cell.slots.size = n ∧ ∀ j, j < n → cell.slots[j]? = some (.int (iI (d j)))
theorem IR.lt {G : GG} {a n : Nat} {d : Nat → Int} {H : Heap} (h : IR G a n d H) : a < H.size := by
  obtain ⟨cell, h1, -⟩ := h
  exact (Array.getElem?_eq_some_iff.mp h1).1
theorem IR.keep {G : GG} {a n : Nat} {d : Nat → Int} {H H1 : Heap} {W0 : Nat → Prop} (h : IR G a n d H) (k : Keep W0 H H1) (hw : ¬ W0 a) : IR G a n d H1 := by
  have hlt := h.lt
  obtain ⟨cell, h1, h2⟩ := h
  exact ⟨cell, (k.2 a hlt hw).trans h1, h2⟩
theorem IR.ext {G : GG} {a n : Nat} {d : Nat → Int} {H H1 : Heap} (h : IR G a n d H) (k : Keep noW H H1) : IR G a n d H1 := h.keep k id
theorem IR.of {G : GG} {s : State} {a n : Nat} {d : Nat → Int} {H H' : Heap} (hK : KH G s H') (h : va_at G.2.1 CL (a, .inl (G.2.2.1 0, n, .inl (fun j => iI (d j)))) H) : IR G a n d H := by
  refine ⟨_, h, (hK.1.2.2.2 0 _ rfl).1 n (fun j => .int (iI (d j))), (fun q => by cases q), arrV_size _ _ _, fun j hj => ?_⟩
  exact arrV_read _ _ hj
theorem IR.c {G : GG} {a n : Nat} {d f : Nat → Int} {H : Heap} (h : IR G a n d H) (e : ∀ j, j < n → iI (d j) = iI (f j)) : IR G a n f H := by
  obtain ⟨cell, h1, h2, h3, h4, h5⟩ := h
  exact ⟨cell, h1, h2, h3, h4, fun j hj => by rw [h5 j hj, e j hj]⟩
section XI
variable {p : Program} {l : Launch} {e : Env} {R : Room} {s : State} {m : MethodId} {args : Array Value} {below : List Frame} {meth : Method} {c : Code} {H : Heap} {locs : List Loc} {cells slots : Nat} {Q : State → Prop}
variable {cc : ByteArray} {pc : Nat} {ls : Array Slot} {rest : List Value} {G : GG} {own : String} {nL : Nat} {A : Nat → Prop} {H0 : Heap}
theorem x_ialdR (S : CallFix p m c cc nL s args lw_all own) (hK : KH G s H) {a n : Nat} {dg : Nat → Int} (hq : IR G a n dg H) {z : Int} (hz : 0 ≤ z ∧ z < 2147483648) (hn : z < (n : Int)) (d : decode cc pc = .ok (.iaload, 1)) (kk : W p l e R s m args below meth c H locs cells slots Q (F0 m (pc + 1) ls (.int (iI (dg z.toNat)) :: rest))) : W p l e R s m args below meth c H locs cells slots Q (F0 m (pc) ls (.int (iI z) :: .ref a :: rest)) := by
  obtain ⟨cell, h1, h2, h3, h4, h5⟩ := hq
  exact W.iald S.1 S.2.1 h1 (State.isArrayOf_alike hK.2.1.alike h2) h3 (by rw [h4]; exact iI_in hz hn) (by rw [iI_cl hz]; exact h5 _ (by omega)) rfl rfl d kk
theorem x_alenR (S : CallFix p m c cc nL s args lw_all own) (hK : KH G s H) {a n : Nat} {dg : Nat → Int} (hq : IR G a n dg H) (hn : n < 2147483648) (d : decode cc pc = .ok (.arraylength, 1)) (kk : W p l e R s m args below meth c H locs cells slots Q (F0 m (pc + 1) ls (.int (iI (n : Int)) :: rest))) : W p l e R s m args below meth c H locs cells slots Q (F0 m (pc) ls (.ref a :: rest)) := by
  obtain ⟨cell, h1, h2, h3, h4, h5⟩ := hq
  exact W.alen S.1 S.2.1 h1 (State.isArrayOf_alike hK.2.1.alike h2) (by rw [h4]; exact iI_nat hn) rfl rfl d kk
end XI

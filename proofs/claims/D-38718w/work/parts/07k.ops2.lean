/-! ===== more acts ===== -/
noncomputable def op_house (kn : Int) (ac no : Int) (c : Nat → Row) (w : Int) : Res := if ¬ (0 ≤ w ∧ w ≤ 4) then refR 1 ac no c else obR (houseZ ac no kn c w) ac no c
noncomputable def op_upper (ac no : Int) (c : Nat → Row) (k : Int) : Res := if ¬ (0 ≤ k ∧ k ≤ 7) then refR 1 ac no c else if ¬ (¬ (1 < (c k.toNat).1)) then refR 2 ac no c else obR (bitsZ (c k.toNat) / 4294967296) ac no c
noncomputable def op_lower (ac no : Int) (c : Nat → Row) (k : Int) : Res := if ¬ (0 ≤ k ∧ k ≤ 7) then refR 1 ac no c else if ¬ (¬ (1 < (c k.toNat).1)) then refR 2 ac no c else obR (bitsZ (c k.toNat)) ac no c
noncomputable def op_row (ac no : Int) (c : Nat → Row) (t : Int) (v : Int) : Res := if ¬ (-65535 ≤ t ∧ t ≤ 65535) ∨ ¬ (-8192 ≤ v ∧ v ≤ 8192) then refR 1 ac no c else if ¬ (-65535 ≤ t + 7 * v ∧ t + 7 * v ≤ 65535) then comeF ac no c 0 none else comeAllF ac no c (fun i => mk 0 (t + (i : Int) * v))
noncomputable def op_all (ac no : Int) (c : Nat → Row) (how : Int) : Res := if ¬ (1 ≤ how ∧ how ≤ 5) then refR 1 ac no c else (0, cntZ (fun i => b2i ((becomeR (c i) how).isSome = true)) 8, ac + 1, no, allC c how 8)
noncomputable def op_end (ac no : Int) (c : Nat → Row) (P : Prop) [Decidable P] (k : Int) : Res := if ¬ (0 ≤ k ∧ k ≤ 7) then refR 1 ac no c else comeF ac no c k (some (c (endF c P 8 0)))
noncomputable def op_sort (ac no : Int) (c : Nat → Row)  : Res := comeAllF ac no c (sortZ c)

/-! ===== the acts, as functions ===== -/
/-- an answer, nothing changed -/
abbrev obR (v ac no : Int) (c : Nat → Row) : Res := (0, v, ac, no, c)
def op_eighths (ac no : Int) (c : Nat → Row) (k : Int) (t : Int) : Res := if ¬ (0 ≤ k ∧ k ≤ 7) then refR 1 ac no c else if ¬ (-65535 ≤ t ∧ t ≤ 65535) then refR 2 ac no c else comeF ac no c k (some (mk 0 t))
def op_units (ac no : Int) (c : Nat → Row) (k : Int) (t : Int) : Res := if ¬ (0 ≤ k ∧ k ≤ 7) then refR 1 ac no c else if ¬ (-65535 ≤ t ∧ t ≤ 65535) then refR 2 ac no c else comeF ac no c k (some (mk 0 (8 * t)))
def op_zero (ac no : Int) (c : Nat → Row) (k : Int) (P : Prop) [Decidable P] : Res := if ¬ (0 ≤ k ∧ k ≤ 7) then refR 1 ac no c else comeF ac no c k (some (0, 0, b2i P))
def op_endless (ac no : Int) (c : Nat → Row) (k : Int) (P : Prop) [Decidable P] : Res := if ¬ (0 ≤ k ∧ k ≤ 7) then refR 1 ac no c else comeF ac no c k (some (1, 0, b2i P))
def op_copy (ac no : Int) (c : Nat → Row) (k : Int) (j : Int) : Res := if ¬ (0 ≤ k ∧ k ≤ 7) ∨ ¬ (0 ≤ j ∧ j ≤ 7) then refR 1 ac no c else comeF ac no c j (some (c k.toNat))
def op_step (ac no : Int) (c : Nat → Row) (k : Int) (t : Int) : Res := if ¬ (0 ≤ k ∧ k ≤ 7) then refR 1 ac no c else if ¬ (-65535 ≤ t ∧ t ≤ 65535) then refR 2 ac no c else comeF ac no c k (if (c k.toNat).1 = 0 ∧ ofSet ((c k.toNat).2.1 + t) then some (mk 0 ((c k.toNat).2.1 + t)) else none)
def op_turn (ac no : Int) (c : Nat → Row) (k : Int) : Res := if ¬ (0 ≤ k ∧ k ≤ 7) then refR 1 ac no c else comeF ac no c k (some ((c k.toNat).1, -(c k.toNat).2.1, 1 - (c k.toNat).2.2))
def op_act (ac no : Int) (c : Nat → Row) (k : Int) (j : Int) (how : Int) : Res := if ¬ (0 ≤ k ∧ k ≤ 7) ∨ ¬ (0 ≤ j ∧ j ≤ 7) then refR 1 ac no c else comeF ac no c j (becomeR (c k.toNat) how)
def op_kind (ac no : Int) (c : Nat → Row) (k : Int) : Res := if ¬ (0 ≤ k ∧ k ≤ 7) then refR 1 ac no c else obR ((c k.toNat).1) ac no c
def op_of (ac no : Int) (c : Nat → Row) (k : Int) : Res := if ¬ (0 ≤ k ∧ k ≤ 7) then refR 1 ac no c else obR (ofR (c k.toNat)) ac no c
def op_isBelow (ac no : Int) (c : Nat → Row) (k : Int) : Res := if ¬ (0 ≤ k ∧ k ≤ 7) then refR 1 ac no c else if (c k.toNat).2.2 = 1 then obR (1) ac no c else obR (0) ac no c
def op_height (ac no : Int) (c : Nat → Row) (k : Int) : Res := if ¬ (0 ≤ k ∧ k ≤ 7) then refR 1 ac no c else if ¬ (¬ (((c k.toNat).1 ≠ 0 ∧ (c k.toNat).1 ≠ 2) ∨ zeroR (c k.toNat))) then refR 2 ac no c else obR (if (c k.toNat).1 = 0 then lgZ (c k.toNat).2.1 - 3 else lgZ (c k.toNat).2.1 / 3 - 1) ac no c
def op_order (ac no : Int) (c : Nat → Row) (i : Int) (j : Int) : Res := if ¬ (0 ≤ i ∧ i ≤ 7) ∨ ¬ (0 ≤ j ∧ j ≤ 7) then refR 1 ac no c else obR (if aheadR (c i.toNat) (c j.toNat) then -1 else if aheadR (c j.toNat) (c i.toNat) then 1 else if nearR (c i.toNat) (c j.toNat) then 2 else 0) ac no c
def op_isAlike (ac no : Int) (c : Nat → Row) (i : Int) (j : Int) : Res := if ¬ (0 ≤ i ∧ i ≤ 7) ∨ ¬ (0 ≤ j ∧ j ≤ 7) then refR 1 ac no c else if alikeR (c i.toNat) (c j.toNat) then obR (1) ac no c else obR (0) ac no c
def op_isNear (ac no : Int) (c : Nat → Row) (i : Int) (j : Int) : Res := if ¬ (0 ≤ i ∧ i ≤ 7) ∨ ¬ (0 ≤ j ∧ j ≤ 7) then refR 1 ac no c else if nearR (c i.toNat) (c j.toNat) then obR (1) ac no c else obR (0) ac no c
def op_most (ac no : Int) (c : Nat → Row) (i : Int) (j : Int) : Res := if ¬ (0 ≤ i ∧ i ≤ 7) ∨ ¬ (0 ≤ j ∧ j ≤ 7) then refR 1 ac no c else if ¬ nearR (c i.toNat) (c j.toNat) then refR 2 ac no c else if (c i.toNat).1 = 0 ∨ (c j.toNat).1 = 0 then obR (4) ac no c else obR (1) ac no c
def op_isWithin (ac no : Int) (c : Nat → Row) (i : Int) (j : Int) : Res := if ¬ (0 ≤ i ∧ i ≤ 7) ∨ ¬ (0 ≤ j ∧ j ≤ 7) then refR 1 ac no c else if ¬ nearR (c i.toNat) (c j.toNat) then refR 2 ac no c else obR (1) ac no c
def op_find (ac no : Int) (c : Nat → Row) (k : Int) (P : Prop) [Decidable P] : Res := if ¬ (0 ≤ k ∧ k ≤ 7) then refR 1 ac no c else obR (fndZ P (fun j => alikeR (c j) (c k.toNat)) 8) ac no c
def op_rank (ac no : Int) (c : Nat → Row) (k : Int) : Res := if ¬ (0 ≤ k ∧ k ≤ 7) then refR 1 ac no c else obR (cntZ (fun j => b2i (aheadR (c j) (c k.toNat))) 8) ac no c
noncomputable def op_wholePart (ac no : Int) (c : Nat → Row) (n : Int) : Res := if ¬ (0 ≤ n ∧ n ≤ 65535) then refR 1 ac no c else obR (cubesZ n) ac no c
def op_isCube (ac no : Int) (c : Nat → Row) (t : Int) : Res := if ¬ (-65535 ≤ t ∧ t ≤ 65535) then refR 1 ac no c else if rootZ t ≠ 1000000 then obR (1) ac no c else obR (0) ac no c
def op_rootOfCube (ac no : Int) (c : Nat → Row) (a : Int) : Res := if ¬ (0 ≤ a ∧ a ≤ 208000) then refR 1 ac no c else obR (a) ac no c
def op_product (ac no : Int) (c : Nat → Row) (a : Int) (b : Int) : Res := if ¬ (-128 ≤ a ∧ a ≤ 128) ∨ ¬ (-128 ≤ b ∧ b ≤ 128) then refR 1 ac no c else obR (a * b) ac no c
noncomputable def op_stepsUp (ac no : Int) (c : Nat → Row) (n : Int) (t : Int) : Res := if ¬ (0 ≤ n ∧ n ≤ 65535) ∨ ¬ (0 ≤ t ∧ t ≤ 200) ∨ 65535 < n + t then refR 1 ac no c else obR (cubesZ (n + t) - cubesZ n) ac no c
noncomputable def op_nextStep (ac no : Int) (c : Nat → Row) (n : Int) : Res := if ¬ (0 ≤ n ∧ n ≤ 8000) then refR 1 ac no c else obR ((cubesZ n + 1) * (cubesZ n + 1) * (cubesZ n + 1)) ac no c
def op_rises (ac no : Int) (c : Nat → Row) (P : Prop) [Decidable P] (n : Int) (t : Int) : Res := if ¬ (-65535 ≤ n ∧ n ≤ 65535) ∨ ¬ (0 ≤ t ∧ t ≤ 200) ∨ 65535 < n + t then refR 1 ac no c else obR (1) ac no c
def op_opposite (ac no : Int) (c : Nat → Row) (t : Int) : Res := if ¬ (-65535 ≤ t ∧ t ≤ 65535) then refR 1 ac no c else obR (1) ac no c
def op_eight (ac no : Int) (c : Nat → Row) (t : Int) : Res := if ¬ (-65535 ≤ t ∧ t ≤ 65535) then refR 1 ac no c else obR (1) ac no c
def op_comesNear (ac no : Int) (c : Nat → Row) (t : Int) : Res := if ¬ (1 ≤ t ∧ t ≤ 65535) then refR 1 ac no c else obR (1) ac no c
noncomputable def op_ways (ac no : Int) (c : Nat → Row) (n : Int) : Res := if ¬ (0 ≤ n ∧ n ≤ 65535) then refR 1 ac no c else obR (wtotZ n) ac no c
noncomputable def op_way (ac no : Int) (c : Nat → Row) (n : Int) (i : Int) : Res := if ¬ (0 ≤ n ∧ n ≤ 65535) ∨ ¬ (0 ≤ i ∧ i ≤ 9) then refR 1 ac no c else obR (max (-1) (wayZ n i)) ac no c
noncomputable def op_twoWays (ac no : Int) (c : Nat → Row) (n : Int) (t : Int) : Res := if ¬ (0 ≤ n ∧ n ≤ 65535) ∨ ¬ (0 ≤ t ∧ t ≤ 100) ∨ 65535 < n + t - 1 then refR 1 ac no c else obR (cntZ (fun j => b2i (1 < wtotZ (n + j))) t.toNat) ac no c

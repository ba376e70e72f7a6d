/-! ===== a leaf of what is told of the start ===== -/
def nrL : Cond → List Bool → Option Cond
  | .and a _, true :: q => nrL a q
  | .and _ b, false :: q => nrL b q
  | c, [] => some c
  | _, _ => none
theorem nrL_and {args : Array Value} {s : State} {a b : Cond} (h : (Cond.and a b).before args s = true) : a.before args s = true ∧ b.before args s = true := by
  rw [Cond.before_and, Bool.and_eq_true] at h
  exact h
theorem nrL_ok {args : Array Value} {s : State} : ∀ (q : List Bool) (c w : Cond), c.before args s = true → nrL c q = some w → w.before args s = true := by
  intro q
  induction q with
  | nil =>
    intro c w h e
    cases c <;> (simp [nrL] at e; rw [← e]; exact h)
  | cons b q ih =>
    intro c w h e
    cases c with
    | and a1 a2 =>
      have h2 := nrL_and h
      cases b
      · exact ih a2 w h2.2 e
      · exact ih a1 w h2.1 e
    | _ => simp [nrL] at e

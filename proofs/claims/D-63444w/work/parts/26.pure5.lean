/-! Compare's set, by its own loop -/
def cpB (ls0 : Bool) (k : Nat) : Bool := if ls0 then decide (k / 4 < k % 4) else decide (k / 4 = k % 4)
def cpS (ls0 : Bool) (a b : Nat) : Nat → Int64
  | 0 => 0
  | k + 1 => if cpB ls0 k = true then cpS ls0 a b k ||| (whL a (k / 4) &&& whL b (k % 4)) else cpS ls0 a b k
def cmR (ls0 : Bool) (a b : Nat) : Nat := if ls0 = false ∧ ((a < 3 ∧ ¬ b < 3) ∨ (¬ a < 3 ∧ b < 3)) then vrN a ||| vrN b else 0
theorem q4a : ∀ k, k < 16 → nI k >>> (nI 2 &&& 31) = nI (k / 4) := by decide +kernel
theorem q4b : ∀ k, k < 16 → nI k &&& nI 3 = nI (k % 4) := by decide +kernel
def atS (pv a b : Nat) : Nat → Int64
  | 0 => 0
  | k + 1 => if pv / 2 ^ k % 2 ≠ 0 then atS pv a b k ||| (whL a (k / 4) &&& whL b (k % 4)) else atS pv a b k
theorem cp_tt {ls0 : Bool} {k : Nat} (h : ls0 = true) (h2 : k / 4 < k % 4) : cpB ls0 k = true := by subst h; exact decide_eq_true h2
theorem cp_tf {ls0 : Bool} {k : Nat} (h : ls0 = true) (h2 : ¬ k / 4 < k % 4) : ¬ cpB ls0 k = true := by subst h; show ¬ decide (k / 4 < k % 4) = true; rw [decide_eq_false h2]; decide
theorem cp_ft {ls0 : Bool} {k : Nat} (h : ls0 = false) (h2 : k / 4 = k % 4) : cpB ls0 k = true := by subst h; exact decide_eq_true h2
theorem cp_ff {ls0 : Bool} {k : Nat} (h : ls0 = false) (h2 : ¬ k / 4 = k % 4) : ¬ cpB ls0 k = true := by subst h; show ¬ decide (k / 4 = k % 4) = true; rw [decide_eq_false h2]; decide

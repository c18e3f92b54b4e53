/-! sets of assignments, the table of all sets, progress, rows: by the twin's own loops -/
def bitL (k : Nat) : Int64 := 1 <<< ((nI k).toInt64 &&& 63)
def setR (P : Nat → Bool) : Nat → Int64
  | 0 => 0
  | k + 1 => if P k = true then setR P k ||| bitL k else setR P k
theorem tb_or (x y : Int64) (n : Nat) : tb (x ||| y) n = (tb x n || tb y n) := by
  unfold tb; rw [Int64.toBitVec_or, BitVec.getLsbD_or]
theorem tb_bitL : ∀ k, k < 64 → ∀ n, n < 64 → tb (bitL k) n = decide (n = k) := by decide +kernel
theorem tb_0 (n : Nat) : tb 0 n = false := by unfold tb; simp
theorem tb_setR (P : Nat → Bool) : ∀ (k : Nat), k ≤ 64 → ∀ n, n < 64 → tb (setR P k) n = (decide (n < k) && P n) := by
  intro k
  induction k with
  | zero => intro _ n _; rw [setR, tb_0]; simp
  | succ k ih =>
    intro hk n hn
    rw [setR]
    by_cases hp : P k = true
    · rw [if_pos hp, tb_or, ih (by omega) n hn, tb_bitL k (by omega) n hn]
      by_cases h : n = k
      · subst h; simp [hp]
      · by_cases h2 : n < k
        · simp [h2, h, show n < k + 1 by omega]
        · simp [h2, h, show ¬ n < k + 1 by omega]
    · rw [if_neg hp, ih (by omega) n hn]
      by_cases h : n = k
      · subst h; simp [hp]
      · by_cases h2 : n < k
        · simp [h2, show n < k + 1 by omega]
        · simp [h2, show ¬ n < k + 1 by omega]
theorem setR_congr {P P' : Nat → Bool} : ∀ (k : Nat), (∀ n, n < k → P n = P' n) → setR P k = setR P' k := by
  intro k
  induction k with
  | zero => intro _; rfl
  | succ k ih => intro h; rw [setR, setR, ih (fun n hn => h n (by omega)), h k (by omega)]
theorem tb_ext {x y : Int64} (h : ∀ n, n < 64 → tb x n = tb y n) : x = y := by
  apply Int64.toBitVec_inj.mp
  exact BitVec.eq_of_getLsbD_eq fun i hi => h i hi
theorem tb_setR64 (P : Nat → Bool) {n : Nat} (hn : n < 64) : tb (setR P 64) n = P n := by rw [tb_setR P 64 (by omega) n hn]; simp [hn]
def FP (nf : Nat) (kK kW kF kS kL kE tm pr : Nat → Nat) (np : Nat) (ho : Nat → Int64) : Prop := ∀ f, f < nf → ∀ i, i < np → ho (24 * f + i) = setR (satB kK kW kF kS kL kE tm pr np ho f i) 64
theorem snV_congr {kF kS kL kE tm : Nat → Nat} {ho ho2 : Nat → Int64} {f i n : Nat} : ∀ j1, (∀ j, j < j1 → ho (24 * kF f + j) = ho2 (24 * kF f + j) ∧ ho (24 * kS f + j) = ho2 (24 * kS f + j)) → snV kF kS kL kE tm ho f i n j1 = snV kF kS kL kE tm ho2 f i n j1 := by
  intro j1
  induction j1 with
  | zero => intro _; rfl
  | succ j ih => intro h; rw [snV, snV, (h j (by omega)).1, (h j (by omega)).2, ih (fun j hj => h j (by omega))]
theorem unV_congr {kF kS kL kE tm : Nat → Nat} {ho ho2 : Nat → Int64} {f i n : Nat} : ∀ r j, (∀ q, q < j + r → ho (24 * kF f + q) = ho2 (24 * kF f + q) ∧ ho (24 * kS f + q) = ho2 (24 * kS f + q)) → unV kF kS kL kE tm ho f i n r j = unV kF kS kL kE tm ho2 f i n r j := by
  intro r
  induction r with
  | zero => intro j _; rfl
  | succ r ih => intro j h; rw [unV, unV, (h j (by omega)).1, (h j (by omega)).2, ih (j + 1) (fun q hq => h q (by omega))]
theorem exV_congr {kW kF : Nat → Nat} {ho ho2 : Nat → Int64} {f i n : Nat} (h : ho (24 * kF f + i) = ho2 (24 * kF f + i)) : ∀ v, exV kW kF ho f i n v = exV kW kF ho2 f i n v := by
  intro v
  induction v with
  | zero => rfl
  | succ v ih => rw [exV, exV, ih, h]
/-- what a formula says of a place rests on the formulas before it -/
theorem satB_congr {kK kW kF kS kL kE tm pr : Nat → Nat} {np : Nat} {ho ho2 : Nat → Int64} {f i n : Nat} (hi : i < np) (hc : 3 ≤ kK f → kF f < f ∧ kS f < f) (h : ∀ g, g < f → ∀ j, j < np → ho (24 * g + j) = ho2 (24 * g + j)) : satB kK kW kF kS kL kE tm pr np ho f i n = satB kK kW kF kS kL kE tm pr np ho2 f i n := by
  unfold satB
  split
  · rfl
  · rfl
  · rfl
  · rename_i hk; rw [h _ (hc (by omega)).1 i hi]
  · rename_i hk; rw [h _ (hc (by omega)).1 i hi, h _ (hc (by omega)).2 i hi]
  · rename_i hk; rw [h _ (hc (by omega)).1 i hi, h _ (hc (by omega)).2 i hi]
  · rename_i hk; exact exV_congr (h _ (hc (by omega)).1 i hi) 4
  · rename_i hk; rw [h _ (hc (by omega)).1 (i - 1) (by omega)]
  · rename_i hk; exact snV_congr (i + 1) (fun j hj => ⟨h _ (hc (by omega)).1 j (by omega), h _ (hc (by omega)).2 j (by omega)⟩)
  · rename_i h0 h1 h2 h3 h4 h5 h6 h7 h8
    have h3' : 3 ≤ kK f := by
      by_cases e0 : kK f = 0
      · exact absurd e0 h0
      · by_cases e1 : kK f = 1
        · exact absurd e1 h1
        · by_cases e2 : kK f = 2
          · exact absurd e2 h2
          · omega
    exact unV_congr (np - i) i (fun q hq => ⟨h _ (hc h3').1 q (by omega), h _ (hc h3').2 q (by omega)⟩)
/-- the table while it is written: all of the formulas before f, of f the places before i -/
def FQ (kK kW kF kS kL kE tm pr : Nat → Nat) (np : Nat) (ho : Nat → Int64) (f i : Nat) : Prop := (∀ g, g < f → ∀ j, j < np → ho (24 * g + j) = setR (satB kK kW kF kS kL kE tm pr np ho g j) 64) ∧ ∀ j, j < i → ho (24 * f + j) = setR (satB kK kW kF kS kL kE tm pr np ho f j) 64
theorem FQ_step {nf : Nat} {kK kW kF kS kL kE tm pr : Nat → Nat} {np : Nat} {ho : Nat → Int64} {f i : Nat} (hF : WF nf kK kW kF kS kL kE) (hf : f < nf) (hnp : np ≤ 24) (hi : i < np) (h : FQ kK kW kF kS kL kE tm pr np ho f i) : FQ kK kW kF kS kL kE tm pr np (va_up ho (24 * f + i) (setR (fun n => satB kK kW kF kS kL kE tm pr np ho f i n) 64)) f (i + 1) := by
  have key : ∀ g, g ≤ f → ∀ j, j < np → ∀ n, satB kK kW kF kS kL kE tm pr np (va_up ho (24 * f + i) (setR (fun n => satB kK kW kF kS kL kE tm pr np ho f i n) 64)) g j n = satB kK kW kF kS kL kE tm pr np ho g j n := by
    intro g hg j hj n
    refine satB_congr hj (fun h3 => (hF.2 g (by omega)).2.2.2.2.2 h3) (fun c hc q hq => ?_)
    exact va_up_ne _ _ (by omega)
  constructor
  · intro g hg j hj
    rw [va_up_ne _ _ (by omega), h.1 g hg j hj]
    exact setR_congr 64 (fun n _ => (key g (by omega) j hj n).symm)
  · intro j hj
    by_cases e : j = i
    · subst e
      rw [va_up_self]
      exact setR_congr 64 (fun n _ => (key f (by omega) j hi n).symm)
    · rw [va_up_ne _ _ (by omega), h.2 j (by omega)]
      exact setR_congr 64 (fun n _ => (key f (by omega) j (by omega) n).symm)
theorem FQ_next {kK kW kF kS kL kE tm pr : Nat → Nat} {np : Nat} {ho : Nat → Int64} {f : Nat} (h : FQ kK kW kF kS kL kE tm pr np ho f np) : FQ kK kW kF kS kL kE tm pr np ho (f + 1) 0 := by
  refine ⟨fun g hg j hj => ?_, fun j hj => absurd hj (Nat.not_lt_zero _)⟩
  by_cases e : g = f
  · subst e; exact h.2 j hj
  · exact h.1 g (by omega) j hj
def ovR (tm : Nat → Nat) (b : Nat) : Nat → Bool
  | 0 => false
  | k + 1 => ovR tm b k || decide (b ≤ tm k)
def dcR (tm : Nat → Nat) (np e m : Nat) : Nat → Nat
  | 0 => 0
  | i + 1 => if ovR tm (tm i + e) (min (m + 1) np) = true then dcR tm np e m i + 1 else dcR tm np e m i
theorem dcR_le (tm : Nat → Nat) (np e m : Nat) : ∀ i, dcR tm np e m i ≤ i := by
  intro i
  induction i with
  | zero => exact Nat.le_refl _
  | succ i ih => rw [dcR]; split <;> omega
def reM (kK kF kS g : Nat → Nat) (np k : Nat) : Nat := if kK k ≤ 2 then np else min (g (kF k)) (g (kS k))
def reS (kK kF kS kE tm g : Nat → Nat) (np k : Nat) : Nat := if kK k = 7 then min np (reM kK kF kS g np k + 1) else if kK k = 9 then dcR tm np (kE k) (reM kK kF kS g np k) np else reM kK kF kS g np k
def RP (nf : Nat) (kK kF kS kE tm : Nat → Nat) (np : Nat) (RE : Nat → Nat) : Prop := ∀ k, k < nf → RE k = reS kK kF kS kE tm RE np k ∧ RE k ≤ np
def knB (f i : Int32) (nf : Nat) (RE : Nat → Nat) : Bool := fmB f nf && decide (0 ≤ i.toInt ∧ i.toInt < RE (cN f))
def agR (n m s : Nat) : Nat → Bool
  | 0 => true
  | v + 1 => agR n m s v && (!s.testBit v || decide (vlN v n = vlN v m))
def fiR (x : Int64) (s n : Nat) : Nat → Bool
  | 0 => tb x n
  | m + 1 => fiR x s n m && !(tb x m && agR n m s 3)
def cnR (x : Int64) (s : Nat) : Nat → Nat
  | 0 => 0
  | n + 1 => if fiR x s n n = true then cnR x s n + 1 else cnR x s n
theorem cnR_le (x : Int64) (s : Nat) : ∀ n, cnR x s n ≤ n := by
  intro i
  induction i with
  | zero => exact Nat.le_refl _
  | succ i ih => rw [cnR]; split <;> omega
abbrev plP (wt : Bool) (np : Nat) (tm : Nat → Nat) (t : Int32) : Prop := wt = true ∧ (0 ≤ t.toInt ∧ t.toInt ≤ 1000000) ∧ np < 24 ∧ (0 < np → (tm (np - 1) : Int) ≤ t.toInt)
theorem tm_of' {t : Int32} (h1 : 0 ≤ t.toInt) (h2 : t.toInt ≤ 1000000) : ∃ k : Nat, t = nI k ∧ k ≤ 1000000 := by
  obtain ⟨k, rfl, hk⟩ := cl_of (x := t) (lo := 0) (hi := 1000000) h1 h2 (by decide)
  exact ⟨k, rfl, by omega⟩
theorem TL_up {np : Nat} {tm : Nat → Nat} {t : Nat} (h : TL np tm) (hn : np < 24) (ht : t ≤ 1000000) (hl : 0 < np → tm (np - 1) ≤ t) : TL (np + 1) (va_up tm np t) := by
  obtain ⟨h1, h2, h3⟩ := h
  refine ⟨by omega, fun a ha => ?_, fun a b hab hb => ?_⟩
  · unfold va_up; split
    · exact ht
    · exact h2 a (by omega)
  · unfold va_up
    by_cases e : b = np
    · by_cases e2 : a = np
      · simp [e, e2]
      · rw [if_neg e2, if_pos e]
        have := h3 a (np - 1) (by omega) (by omega)
        have := hl (by omega)
        omega
    · rw [if_neg (by omega), if_neg e]
      exact h3 a b hab (by omega)
/-- the pairs of a place, moved out of what was gathered -/
def PM (np : Nat) (pr ga : Nat → Nat) (k : Nat) (pr' ga' : Nat → Nat) : Prop := (∀ j, j < k → ga' j = 0) ∧ (∀ j, k ≤ j → ga' j = ga j) ∧ (∀ q, q < k → pr' (24 * q + np) = ga q) ∧ (∀ q i, q < 3 → i < 24 → i ≠ np → pr' (24 * q + i) = pr (24 * q + i)) ∧ PB pr'
theorem PM_step {np : Nat} {pr ga : Nat → Nat} {k : Nat} {pr' ga' : Nat → Nat} (h : PM np pr ga k pr' ga') (hk : k < 3) (hnp : np < 24) (hg : ∀ j, j < 3 → ga j < 65536) : PM np pr ga (k + 1) (va_up pr' (24 * k + np) (ga' k)) (va_up ga' k 0) := by
  obtain ⟨h1, h2, h3, h4, h5⟩ := h
  refine ⟨up_ext (F := fun _ => 0) h1 rfl, fun j hj => ?_, fun q hq => ?_, fun q i hq hi hn => ?_, fun j hj => ?_⟩
  · rw [va_up_ne _ _ (by omega)]; exact h2 j (by omega)
  · by_cases e : q = k
    · subst e; rw [va_up_self]; exact h2 _ (Nat.le_refl _)
    · rw [va_up_ne _ _ (by omega)]; exact h3 q (by omega)
  · rw [va_up_ne _ _ (by omega)]; exact h4 q i hq hi hn
  · unfold va_up; split
    · rw [h2 k (Nat.le_refl _)]; exact hg k hk
    · exact h5 j hj
theorem nI_addE (a b : Nat) : nI a + (nI b - 1) = nI (a + b) - 1 := by
  rw [← nI_add]
  rw [Int32.sub_eq_add_neg, Int32.sub_eq_add_neg, Int32.add_assoc]
theorem kn_fm {f i : Int32} {nf : Nat} {RE : Nat → Nat} (h : knB f i nf RE = true) : fmB f nf = true := by
  unfold knB at h; rw [Bool.and_eq_true] at h; exact h.1
theorem kn_of {f i : Int32} {nf : Nat} {RE : Nat → Nat} (h : knB f i nf RE = true) : ∃ k j : Nat, f = nI k ∧ i = nI j ∧ k < nf ∧ (nf ≤ 12 → j < RE k) := by
  have h0 := h
  unfold knB at h
  rw [Bool.and_eq_true] at h
  obtain ⟨k, rfl, hk⟩ := fm_of h.1
  have h2 := of_decide_eq_true h.2
  obtain ⟨j, rfl, hj⟩ := cl_of (x := i) (lo := 0) (hi := RE (cN (nI k))) h2.1 (by omega) (by decide)
  refine ⟨k, j, rfl, rfl, hk, fun hn => ?_⟩
  rw [cN_nI (by omega)] at h2
  omega

/-! ranged, closed by cases; bits of gathered pairs -/
theorem rgA_1 {kK kF g : Nat → Nat} {k : Nat} (h : kK k ≤ 2) : rgA kK kF g k = vrN (kF k) := if_pos h
theorem rgA_2 {kK kF g : Nat → Nat} {k : Nat} (h : ¬ kK k ≤ 2) : rgA kK kF g k = g (kF k) := if_neg h
theorem rgS_a {kK kW kF kS g : Nat → Nat} {k : Nat} (h : kK k = 0 ∨ kK k = 4) : rgS kK kW kF kS g k = rgA kK kF g k ||| rgA kK kS g k := if_pos h
theorem rgS_b {kK kW kF kS g : Nat → Nat} {k : Nat} (h : kK k = 1) (h2 : rgA kK kF g k = 0 ∨ rgA kK kS g k = 0) : rgS kK kW kF kS g k = rgA kK kF g k ||| rgA kK kS g k := by
  unfold rgS; rw [if_neg (by omega), if_pos h, if_pos h2]
theorem rgS_c {kK kW kF kS g : Nat → Nat} {k : Nat} (h : kK k = 1) (h2 : ¬ (rgA kK kF g k = 0 ∨ rgA kK kS g k = 0)) : rgS kK kW kF kS g k = 0 := by
  unfold rgS; rw [if_neg (by omega), if_pos h, if_neg h2]
theorem rgS_d {kK kW kF kS g : Nat → Nat} {k : Nat} (h : kK k = 2 ∨ kK k = 3) : rgS kK kW kF kS g k = 0 := by
  unfold rgS; rw [if_neg (by omega), if_neg (by omega), if_pos h]
theorem rgS_e {kK kW kF kS g : Nat → Nat} {k : Nat} (h : kK k = 5) : rgS kK kW kF kS g k = rgA kK kF g k &&& rgA kK kS g k := by
  unfold rgS; rw [if_neg (by omega), if_neg (by omega), if_neg (by omega), if_pos h]
theorem rgS_f {kK kW kF kS g : Nat → Nat} {k : Nat} (h : kK k = 6) : rgS kK kW kF kS g k = clrN (rgA kK kF g k) (kW k) := by
  unfold rgS; rw [if_neg (by omega), if_neg (by omega), if_neg (by omega), if_neg (by omega), if_pos h]
theorem rgS_g {kK kW kF kS g : Nat → Nat} {k : Nat} (h : 7 ≤ kK k) : rgS kK kW kF kS g k = rgA kK kS g k := by
  unfold rgS; rw [if_neg (by omega), if_neg (by omega), if_neg (by omega), if_neg (by omega), if_neg (by omega)]
def bdB (f : Int32) (nf : Nat) (FR RG : Nat → Nat) (CL : Nat → Bool) : Bool := fmB f nf && (decide (FR (cN f) &&& (7 - RG (cN f)) = 0) && CL (cN f))
/-- the marks of 'bounded': all that is marked below j1 is closed, just if f is -/
def bdI (CL : Nat → Bool) (f : Nat) (j1 : Nat) (P : Nat → Bool) : Prop := CL f = true ↔ ∀ j, j < j1 → P j = true → CL j = true
theorem bd_0 {CL P : Nat → Bool} {f : Nat} (h : ∀ j, j < 12 → P j = decide (j = f)) (hf : f < 12) : bdI CL f (f + 1) P := by
  constructor
  · intro h1 j hj h2
    rw [h j (by omega)] at h2
    rw [of_decide_eq_true h2]; exact h1
  · intro h1
    exact h1 f (by omega) (by rw [h f hf]; exact decide_eq_true rfl)
theorem bd_skip {CL P : Nat → Bool} {f k : Nat} (h : bdI CL f (k + 1) P) (hk : P k = false ∨ CL k = true) : bdI CL f k P := by
  refine h.trans ⟨fun h1 j hj => h1 j (by omega), fun h1 j hj hp => ?_⟩
  by_cases e : j = k
  · subst e
    rcases hk with hk | hk
    · rw [hk] at hp; cases hp
    · exact hk
  · exact h1 j (by omega) hp
theorem bd_in {CL P : Nat → Bool} {f k a b : Nat} (h : bdI CL f (k + 1) P) (hk : P k = true) (hc : CL k = (CL a && CL b)) (ha : a < k) (hb : b < k) : bdI CL f k (va_up (va_up P a true) b true) := by
  refine h.trans ⟨fun h1 j hj hp => ?_, fun h1 j hj hp => ?_⟩
  · have hk1 := h1 k (by omega) hk
    rw [hc, Bool.and_eq_true] at hk1
    unfold va_up at hp
    by_cases e : j = b
    · rw [e]; exact hk1.2
    · rw [if_neg e] at hp
      by_cases e2 : j = a
      · rw [e2]; exact hk1.1
      · rw [if_neg e2] at hp
        exact h1 j (by omega) hp
  · have ha1 : CL a = true := h1 a ha (by unfold va_up; by_cases e : a = b <;> simp [e])
    have hb1 : CL b = true := h1 b hb (by unfold va_up; simp)
    by_cases e : j = k
    · rw [e, hc, ha1, hb1]; rfl
    · refine h1 j (by omega) ?_
      unfold va_up
      by_cases e1 : j = b
      · simp [e1]
      · rw [if_neg e1]
        by_cases e2 : j = a
        · simp [e2]
        · rw [if_neg e2]; exact hp
theorem bd_no {CL P : Nat → Bool} {f k : Nat} (h : bdI CL f (k + 1) P) (hk : P k = true) (hc : CL k = false) : CL f = false := by
  cases hf : CL f
  · rfl
  · have := h.mp hf k (by omega) hk
    rw [hc] at this; cases this
theorem cl_1 {kK kW kF kS rg : Nat → Nat} {cl : Nat → Bool} {k : Nat} (h : kK k ≤ 2) : clS kK kW kF kS rg cl k = true := by unfold clS; simp [h]
theorem cl_2 {kK kW kF kS rg : Nat → Nat} {cl : Nat → Bool} {k : Nat} (h : ¬ kK k ≤ 2) (h2 : kK k = 6 → (rg (kF k)).testBit (kW k) = true) : clS kK kW kF kS rg cl k = (cl (kF k) && cl (kS k)) := by
  unfold clS
  by_cases h6 : kK k = 6
  · rw [h2 h6]; simp [h6]
  · simp [h, h6]
theorem cl_3 {kK kW kF kS rg : Nat → Nat} {cl : Nat → Bool} {k : Nat} (h : kK k = 6) (h2 : (rg (kF k)).testBit (kW k) = false) : clS kK kW kF kS rg cl k = false := by
  unfold clS; rw [h2]; simp [h]
theorem nx_or (a b : Nat) : nI a ||| nI b = nI (a ||| b) := by
  unfold nI
  apply Int32.toBitVec_inj.mp
  rw [Int32.toBitVec_or]
  show BitVec.ofNat 32 a ||| BitVec.ofNat 32 b = BitVec.ofNat 32 (a ||| b)
  apply BitVec.eq_of_getLsbD_eq
  intro i hi
  simp [BitVec.getLsbD_ofNat, Nat.testBit_or, hi]
theorem shl16 : ∀ s, s < 16 → nI 1 <<< (nI s &&& 31) = nI (2 ^ s) := by decide +kernel
theorem or16 {a s : Nat} (ha : a < 65536) (hs : s < 16) : a ||| 2 ^ s < 65536 := by
  have : (2 : Nat) ^ s < 2 ^ 16 := Nat.pow_lt_pow_right (by decide) hs
  exact Nat.or_lt_two_pow (n := 16) ha this
abbrev gaP (wt : Bool) (r x y : Int32) : Prop := wt = true ∧ (0 ≤ r.toInt ∧ r.toInt ≤ 2) ∧ (0 ≤ x.toInt ∧ x.toInt ≤ 3) ∧ (0 ≤ y.toInt ∧ y.toInt ≤ 3)
theorem v3_of {v : Int32} (h1 : 0 ≤ v.toInt) (h2 : v.toInt ≤ 3) : ∃ k : Nat, v = nI k ∧ k ≤ 3 := by
  obtain ⟨k, rfl, hk⟩ := cl_of (x := v) (lo := 0) (hi := 3) h1 h2 (by decide)
  exact ⟨k, rfl, by omega⟩

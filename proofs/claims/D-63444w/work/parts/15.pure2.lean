/-! free, ranged, closed; what an operation asks for; worlds by addresses alone -/
def clrN (b w : Nat) : Nat := if b.testBit w then b - 2 ^ w else b
def frS (kK kW kF kS g : Nat → Nat) (k : Nat) : Nat := if kK k ≤ 2 then vrN (kF k) ||| vrN (kS k) else if kK k = 6 then clrN (g (kF k) ||| g (kS k)) (kW k) else g (kF k) ||| g (kS k)
def rgA (kK kF g : Nat → Nat) (k : Nat) : Nat := if kK k ≤ 2 then vrN (kF k) else g (kF k)
def rgS (kK kW kF kS g : Nat → Nat) (k : Nat) : Nat :=
  if kK k = 0 ∨ kK k = 4 then rgA kK kF g k ||| rgA kK kS g k else if kK k = 1 then (if rgA kK kF g k = 0 ∨ rgA kK kS g k = 0 then rgA kK kF g k ||| rgA kK kS g k else 0) else if kK k = 2 ∨ kK k = 3 then 0 else if kK k = 5 then rgA kK kF g k &&& rgA kK kS g k else if kK k = 6 then clrN (rgA kK kF g k) (kW k) else rgA kK kS g k
def clS (kK kW kF kS rg : Nat → Nat) (cl : Nat → Bool) (k : Nat) : Bool := decide (kK k ≤ 2) || (cl (kF k) && cl (kS k) && (decide (kK k ≠ 6) || (rg (kF k)).testBit (kW k)))
def SG (nf : Nat) (kK kW kF kS FR RG : Nat → Nat) (CL : Nat → Bool) : Prop := ∀ k, k < nf → FR k = frS kK kW kF kS FR k ∧ FR k < 8 ∧ RG k = rgS kK kW kF kS RG k ∧ RG k < 8 ∧ CL k = clS kK kW kF kS RG CL k
theorem or8 : ∀ a, a < 8 → ∀ b, b < 8 → nI a ||| nI b = nI (a ||| b) := by decide +kernel
theorem or8l : ∀ a, a < 8 → ∀ b, b < 8 → a ||| b < 8 := by decide +kernel
theorem and8 : ∀ a, a < 8 → ∀ b, b < 8 → nI a &&& nI b = nI (a &&& b) := by decide +kernel
theorem clr8 : ∀ b, b < 8 → ∀ w, w ≤ 2 → nI b &&& ((nI 1 <<< (nI w &&& 31)) ^^^ -1) = nI (clrN b w) := by decide +kernel
theorem nand8 : ∀ a, a < 8 → ∀ b, b < 8 → (nI a &&& (nI b ^^^ -1)) = nI (a &&& (7 - b)) := by decide +kernel
theorem bit8 : ∀ a, a < 8 → ∀ w, w ≤ 2 → (nI a >>> (nI w &&& 31)) &&& nI 1 = nI (if a.testBit w then 1 else 0) := by decide +kernel
theorem vr8 {t : Nat} : vrN t < 8 := by
  unfold vrN; split
  · rename_i h
    calc 2 ^ t ≤ 2 ^ 2 := Nat.pow_le_pow_right (by decide) h
      _ < 8 := by decide
  · decide
theorem up_ext {α : Type} {g F : Nat → α} {k : Nat} {v : α} (hg : ∀ j, j < k → g j = F j) (hv : v = F k) : ∀ j, j < k + 1 → va_up g k v j = F j := by
  intro j hj
  by_cases h : j = k
  · subst h; rw [va_up_self]; exact hv
  · unfold va_up; rw [if_neg h]; exact hg j (by omega)
theorem frS_1 {kK kW kF kS g : Nat → Nat} {k : Nat} (h : kK k ≤ 2) : frS kK kW kF kS g k = vrN (kF k) ||| vrN (kS k) := if_pos h
theorem frS_2 {kK kW kF kS g : Nat → Nat} {k : Nat} (h : ¬ kK k ≤ 2) (h6 : kK k ≠ 6) : frS kK kW kF kS g k = g (kF k) ||| g (kS k) := by unfold frS; rw [if_neg h, if_neg h6]
theorem frS_3 {kK kW kF kS g : Nat → Nat} {k : Nat} (h6 : kK k = 6) : frS kK kW kF kS g k = clrN (g (kF k) ||| g (kS k)) (kW k) := by unfold frS; rw [if_neg (by omega), if_pos h6]
theorem mD {A : Nat → Prop} {ws ws' : va_W} (hD : va_D A ws) (h : ws.map Prod.fst = ws'.map Prod.fst) : va_D A ws' := by
  have key : ∀ (k : Nat) (q : Nat × va_E), ws'[k]? = some q → ∃ e, ws[k]? = some (q.1, e) := by
    intro k q hq
    have h1 : (ws'.map Prod.fst)[k]? = some q.1 := by rw [List.getElem?_map, hq]; rfl
    rw [← h, List.getElem?_map] at h1
    cases hw : ws[k]? with
    | none => rw [hw] at h1; cases h1
    | some r =>
      rw [hw] at h1
      have : r.1 = q.1 := Option.some.inj h1
      exact ⟨r.2, by rw [← this]⟩
  refine ⟨fun i j p q hi hj hpq => ?_, fun k q hq => ?_⟩
  · obtain ⟨e1, h1⟩ := key i p hi
    obtain ⟨e2, h2⟩ := key j q hj
    exact hD.1 i j _ _ h1 h2 hpq
  · obtain ⟨e1, h1⟩ := key k q hq
    exact hD.2 k (q.1, e1) h1
theorem cl_of {x : Int32} {lo hi : Int} (h1 : lo ≤ x.toInt) (h2 : x.toInt ≤ hi) (h0 : 0 ≤ lo) : ∃ k : Nat, x = nI k ∧ (k : Int) = x.toInt := by
  obtain ⟨j, hj, rfl⟩ := nI_of (x := x) (by rw [Int32.lt_iff_toInt_lt, Int32.toInt_zero]; omega)
  exact ⟨j, rfl, (nI_toInt hj).symm⟩
theorem tm_of {t : Int32} (h : tmB t = true) : ∃ k : Nat, t = nI k ∧ k < 8 ∧ k ≠ 3 := by
  have h := of_decide_eq_true h
  obtain ⟨k, rfl, hk⟩ := cl_of (x := t) (lo := 0) (hi := 7) h.1 h.2.1 (by decide)
  rw [← hk] at h
  exact ⟨k, rfl, by omega, by omega⟩
theorem fm_of {f : Int32} {nf : Nat} (h : fmB f nf = true) : ∃ k : Nat, f = nI k ∧ k < nf := by
  have h := of_decide_eq_true h
  obtain ⟨k, rfl, hk⟩ := cl_of (x := f) (lo := 0) (hi := nf) h.1 (by omega) (by decide)
  rw [← hk] at h
  exact ⟨k, rfl, by omega⟩
theorem iv_of {lo hi : Int32} {op : Bool} (h : ivB lo hi op = true) : ∃ a e : Nat, lo = nI a ∧ hi = nI e - 1 ∧ a ≤ 1000000 ∧ e ≤ 1000001 ∧ (op = false → a < e) := by
  obtain ⟨h1, h2, h3⟩ := of_decide_eq_true h
  obtain ⟨a, rfl, ha⟩ := cl_of (x := lo) (lo := 0) (hi := 1000000) h1 h2 (by decide)
  rcases h3 with ⟨h3, h4⟩ | ⟨h3, h4⟩
  · obtain ⟨k, rfl, hk⟩ := cl_of (x := hi) (lo := 0) (hi := 1000000) (by omega) h4 (by decide)
    exact ⟨a, k + 1, rfl, (nI_pred k).symm, by omega, by omega, fun _ => by omega⟩
  · refine ⟨a, 0, rfl, ?_, by omega, by omega, fun h => by rw [h] at h3; cases h3⟩
    rw [i32_eqT, h4]; decide
theorem vn_of {v : Int32} (h1 : 0 ≤ v.toInt) (h2 : v.toInt ≤ 2) : ∃ k : Nat, v = nI k ∧ k ≤ 2 := by
  obtain ⟨k, rfl, hk⟩ := cl_of (x := v) (lo := 0) (hi := 2) h1 h2 (by decide)
  exact ⟨k, rfl, by omega⟩
abbrev cN (x : Int32) : Nat := x.toNatClampNeg
theorem cN_nI {k : Nat} (h : k < 2 ^ 31) : cN (nI k) = k := nI_clamp h
def eN (x : Int32) : Nat := (x.toInt + 1).toNat
theorem eN_e {k : Nat} (h : k < 2 ^ 31) : eN (nI k - 1) = k := by unfold eN; rw [eI_toInt h]; omega
abbrev atP (wt : Bool) (nf : Nat) (r a b : Int32) : Prop := mkB wt nf = true ∧ (0 ≤ r.toInt ∧ r.toInt ≤ 2) ∧ tmB a = true ∧ tmB b = true
abbrev cmP (wt : Bool) (nf : Nat) (a b : Int32) : Prop := mkB wt nf = true ∧ tmB a = true ∧ tmB b = true
abbrev noP (wt : Bool) (nf : Nat) (f : Int32) : Prop := mkB wt nf = true ∧ fmB f nf = true
abbrev joP (wt : Bool) (nf : Nat) (f g : Int32) : Prop := mkB wt nf = true ∧ fmB f nf = true ∧ fmB g nf = true
abbrev exP (wt : Bool) (nf : Nat) (v f : Int32) : Prop := mkB wt nf = true ∧ (0 ≤ v.toInt ∧ v.toInt ≤ 2) ∧ fmB f nf = true
abbrev pvP (wt : Bool) (nf : Nat) (lo hi f : Int32) : Prop := mkB wt nf = true ∧ ivB lo hi true = true ∧ fmB f nf = true
abbrev siP (wt : Bool) (nf : Nat) (op : Bool) (lo hi f g : Int32) : Prop := mkB wt nf = true ∧ ivB lo hi op = true ∧ fmB f nf = true ∧ fmB g nf = true
theorem mk_lt {wt : Bool} {nf : Nat} (h : mkB wt nf = true) : nf < 12 := (of_decide_eq_true h).2
theorem mk_wt {wt : Bool} {nf : Nat} (h : mkB wt nf = true) : wt = false := (of_decide_eq_true h).1
